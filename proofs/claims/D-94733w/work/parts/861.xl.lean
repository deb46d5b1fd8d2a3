/-! PLAIN LAW: setter(); the latest writing set without some rules -/
set_option linter.unusedVariables false
/-- the setter is the table's own -/
def XS1 (a : Nat → Nat) (K : XK) (ow : Nat → Nat) (u : XS) (s t : Nat) (as : Nat → Nat) (h : Nat → Int32) : Prop :=
  xS0 a K ow u s t as h ∧ xr u (a 0) 13 = some s ∧ xr u (a 0) 10 = some (a 2) ∧ K (a 2) = (1, 4) ∧ xr u (a 2) 0 = some t ∧ ow (a 0) = 0 ∧ ow (a 2) = 2
section XAL
variable {a : Nat → Nat} {K : XK} {ow : Nat → Nat} {u v : XS} {s t : Nat} {as : Nat → Nat} {h : Nat → Int32} {m : MS}
theorem XS1.fr (hS : XS1 a K ow u s t as h) (hr : ∀ b k, ¬ (ow b = 300 ∧ k = 2) → xr v b k = xr u b k) (hi : ∀ b k, ow b = 100 → xi v b k = xi u b k) : XS1 a K ow v s t as h := by
  obtain ⟨⟨h1, h2, h3, h4, h5, h6, h7, h8⟩, h9, h10, h11, h12, h13, h14⟩ := hS
  have os : ow s = 300 := h1.2.1
  have es : ∀ k, k ≠ 2 → xr v s k = xr u s k := fun k hk => hr s k (fun q => hk q.2)
  have e0 : ∀ k, xr v (a 0) k = xr u (a 0) k := fun k => hr _ k (by omega)
  have hF : Fz K ow u K ow v := ⟨fun _ _ => ⟨rfl, rfl⟩, fun b k _ ho => ⟨hi b k ho, hr b k (by omega)⟩⟩
  refine ⟨⟨?_, by rw [es 0 (by omega), h2], h3.fz hF, h4, h5, by rw [e0, h6], h7, h8⟩, by rw [e0, h9], by rw [e0, h10], h11, by rw [hr _ _ (by omega), h12], h13, h14⟩
  unfold rSet at h1 ⊢
  rw [es 0 (by omega), es 8 (by omega), es 9 (by omega), es 10 (by omega), es 11 (by omega), es 12 (by omega), es 13 (by omega), es 14 (by omega), es 15 (by omega), es 16 (by omega), es 20 (by omega), es 21 (by omega)]
  exact h1
theorem XS1.q (hS : XS1 a K ow u s t as h) (hq : QX ow (a 0) u v) : XS1 a K ow v s t as h :=
  hS.fr (fun b k q => hq.2.2 b k q) (fun b k q => hq.1 b k (by unfold xsc; omega) (fun z => by rw [z.1] at q; have := hS.2.2.2.2.2.1; omega))
theorem x_setter2 {mc ms : Nat} {P : Nat → XK → XS → Prop} (hS : XS1 a K ow u s t as h) (hP : P s K u) : xw0_setter (a 0) K u mc ms P := by
  obtain ⟨⟨h1, h2, h3, h4, h5, h6, h7, h8⟩, h9, h10, h11, h12, h13, h14⟩ := hS
  unfold xw0_setter xw0_table
  refine ⟨h5, s, h9, h1.1, h5, a 2, h10, h11, t, h12, fun _ => ⟨s, h9, hP⟩, fun z => absurd h2 z⟩
set_option maxHeartbeats 8000000 in
theorem x_setterS {mc ms : Nat} {P : Nat → XK → XS → Prop} (hR : Rep a K ow u m) (hmc : 11 ≤ mc) (hms : 7200 ≤ ms)
    (hP : ∀ s t as K2 ow2 v, XA (a 0) K ow u K2 ow2 v → (∀ b k, (K b).1 ≠ 0 → xi v b k = xi u b k) → XS1 a K2 ow2 v s t as (sl m 0) → P s K2 v) : xw0_setter (a 0) K u mc ms P := by
  obtain ⟨hSt, hSc, hTr, ⟨hT, hWW, k2, ⟨tb, ptb, hTb⟩, cdr, hwr⟩, hMar, s, as, ps, hSet⟩ := id hR
  have o0 : ow (a 0) = 0 := hSt.2.1 0 (by omega)
  have o2 : ow (a 2) = 2 := hSt.2.1 2 (by omega)
  have o11 : ow (a 11) = 11 := hSt.2.1 11 (by omega)
  have k0 : K (a 0) = (1, 0) := hSt.1.1
  have k11 : K (a 11) = (1, 2) := hSt.1.2.2.2.2.2.2.2.2.2.2.2.1
  have p1 : xr u (a 0) 1 = some (a 11) := hSt.2.2.1.2.1
  have p10 : xr u (a 0) 10 = some (a 2) := hSt.2.2.1.2.2.2.2.1
  obtain ⟨ts, pts, kts⟩ := hSet.2.2.1
  unfold xw0_setter xw0_table
  refine ⟨k0, s, ps, hSet.1, k0, a 2, p10, k2, tb, ptb, fun e => ?_, fun e => ?_⟩
  · exact ⟨s, ps, hP s tb as K ow u XA.refl (fun _ _ _ => rfl) ⟨⟨hSet, e, hTb, hT, k0, p1, k11, o11⟩, ps, p10, k2, ptb, o0, o2⟩⟩
  · refine ⟨by omega, by omega, fun o K1 u1 hq e1 d1 => ?_⟩
    have O0 := OB.start (AE.refl : AE K u K u) hq e1 d1
    have nz : ∀ {b : Nat} {y : Nat × Nat}, K b = y → y.1 ≠ 0 → (K b).1 ≠ 0 := fun {b y} e hy => by rw [e]; exact hy
    have z0 := nz k0 (by simp)
    have z2 := nz k2 (by simp)
    have zt := nz hTb.choose_spec.1 (by simp)
    have b0 := O0.1 (a 0) z0
    have b2 := O0.1 (a 2) z2
    refine ⟨by rw [b0.1, k0], a 2, by rw [(b0.2 10).2.2, p10], by rw [b2.1, k2], tb, by rw [(b2.2 0).2.2, ptb], 10, 7150, by omega, by omega, ?_⟩
    unfold xw6_init
    refine ⟨O0.2.1, fun u2 e2 => ?_⟩
    have P0 := O0.ref e2 rfl
    refine ⟨by omega, by omega, fun q8 K8 t8 hq8 e8 d8 u8 c8 => ?_⟩
    have P8 := P0.new hq8 e8 d8 c8 (by omega) rfl
    refine ⟨by omega, by omega, fun q9 K9 t9 hq9 e9 d9 u9 c9 => ?_⟩
    have P9 := P8.new hq9 e9 d9 c9 (by omega) rfl
    refine ⟨by omega, by omega, fun q10 K10 t10 hq10 e10 d10 u10 c10 => ?_⟩
    have P10 := P9.new hq10 e10 d10 c10 (by omega) rfl
    refine ⟨by omega, by omega, fun q11 K11 t11 hq11 e11 d11 u11 c11 => ?_⟩
    have P11 := P10.new hq11 e11 d11 c11 (by omega) rfl
    refine ⟨by omega, by omega, fun q12 K12 t12 hq12 e12 d12 u12 c12 => ?_⟩
    have P12 := P11.new hq12 e12 d12 c12 (by omega) rfl
    refine ⟨by omega, by omega, fun q13 K13 t13 hq13 e13 d13 u13 c13 => ?_⟩
    have P13 := P12.new hq13 e13 d13 c13 (by omega) rfl
    refine ⟨by omega, by omega, fun q14 K14 t14 hq14 e14 d14 u14 c14 => ?_⟩
    have P14 := P13.new hq14 e14 d14 c14 (by omega) rfl
    refine ⟨by omega, by omega, fun q15 K15 t15 hq15 e15 d15 u15 c15 => ?_⟩
    have P15 := P14.new hq15 e15 d15 c15 (by omega) rfl
    refine ⟨by omega, by omega, fun q16 K16 t16 hq16 e16 d16 u16 c16 => ?_⟩
    have P16 := P15.new hq16 e16 d16 c16 (by omega) rfl
    refine ⟨by omega, by omega, fun q20 K20 t20 hq20 e20 d20 u20 c20 => ?_⟩
    have P20 := P16.new hq20 e20 d20 c20 (by omega) rfl
    intro u21 e21
    have P21 := P20.ref e21 rfl
    intro u27 e27
    obtain ⟨A, ko, fo, hD, hN, hRf⟩ := P21
    have i0 : ∀ b k, (K b).1 ≠ 0 → xi u27 b k = xi u b k := fun b k hb => by rw [e27]; show xi u21 b k = _; exact ((A _ hb).2 k).1
    have er : ∀ b k, ¬ (b = a 0 ∧ k = 13) → xr u27 b k = xr u21 b k := fun b k hk => by rw [e27]; simp [xr, xsr, hk]
    have e13' : xr u27 (a 0) 13 = some o := by rw [e27]; simp [xr, xsr]
    have no : o ≠ a 0 := fun e => by rw [e] at fo; exact z0 fo
    refine ⟨o, e13', hP o tb (fun f => (xr u21 o f).getD 0) K20 (fun c => if (K c).1 ≠ 0 then ow c else if c = o then 300 else if xr u21 o 8 = some c then 308 else if xr u21 o 9 = some c then 309 else if xr u21 o 10 = some c then 310 else if xr u21 o 11 = some c then 311 else if xr u21 o 12 = some c then 312 else if xr u21 o 13 = some c then 313 else if xr u21 o 14 = some c then 314 else if xr u21 o 15 = some c then 315 else if xr u21 o 16 = some c then 316 else if xr u21 o 20 = some c then 320 else 100) u27 ?_ i0 ?_⟩
    · have hx := XA.ae (a0 := a 0) (ow := ow) (ow2 := (fun c => if (K c).1 ≠ 0 then ow c else if c = o then 300 else if xr u21 o 8 = some c then 308 else if xr u21 o 9 = some c then 309 else if xr u21 o 10 = some c then 310 else if xr u21 o 11 = some c then 311 else if xr u21 o 12 = some c then 312 else if xr u21 o 13 = some c then 313 else if xr u21 o 14 = some c then 314 else if xr u21 o 15 = some c then 315 else if xr u21 o 16 = some c then 316 else if xr u21 o 20 = some c then 320 else 100)) A (fun b hb => if_pos hb)
      refine ⟨hx.1, fun b k hb q q2 => ?_, fun b k hb q => ?_, fun b k hb q q2 => ?_⟩
      · rw [← hx.2.1 b k hb q q2, e27]; rfl
      · rw [← hx.2.2.1 b k hb q, e27]; rfl
      · rw [← hx.2.2.2 b k hb q q2]; exact er b k q2
    · have fz : Fz K ow u K20 (fun c => if (K c).1 ≠ 0 then ow c else if c = o then 300 else if xr u21 o 8 = some c then 308 else if xr u21 o 9 = some c then 309 else if xr u21 o 10 = some c then 310 else if xr u21 o 11 = some c then 311 else if xr u21 o 12 = some c then 312 else if xr u21 o 13 = some c then 313 else if xr u21 o 14 = some c then 314 else if xr u21 o 15 = some c then 315 else if xr u21 o 16 = some c then 316 else if xr u21 o 20 = some c then 320 else 100) u27 :=
        ⟨fun b hb => ⟨(A b hb).1, if_pos hb⟩, fun b k hb ho => ⟨by rw [e27]; exact ((A b hb).2 k).1, by rw [er b k (fun z => by rw [z.1] at ho; omega)]; exact ((A b hb).2 k).2.2⟩⟩
      have ar : ∀ (f n : Nat), (∃ g : Nat → Int32, (up (up (up (up (up (up (up (up (up (up (fun _ => none) 8 (some (2, 1400, fun _ => (0 : Int32)))) 9 (some (2, 301, fun _ => 0))) 10 (some (2, 301, fun _ => 0))) 11 (some (2, 301, fun _ => 0))) 12 (some (2, 301, fun _ => 0))) 13 (some (2, 1400, fun _ => 0))) 14 (some (2, 24, fun _ => 0))) 15 (some (2, 2000, fun _ => 0))) 16 (some (2, 800, fun _ => 0))) 20 (some (2, 301, fun _ => 0))) f = some (2, n, g)) → xr u27 o f = some ((xr u21 o f).getD 0) ∧ K20 ((xr u21 o f).getD 0) = (2, n) ∧ (K ((xr u21 o f).getD 0)).1 = 0 ∧ (xr u21 o f).getD 0 ≠ o ∧ xr u21 o f = some ((xr u21 o f).getD 0) := by
        intro f n hd
        obtain ⟨g, hd⟩ := hd
        obtain ⟨_, q, x2, x3, x4, _⟩ := hD f 2 n g hd
        have e : (xr u21 o f).getD 0 = q := by rw [x2]; rfl
        rw [e]
        exact ⟨by rw [er o f (fun z => no z.1), x2], x4, x3, fun z => by rw [z, ko] at x4; simp at x4, x2⟩
      obtain ⟨y8, y8k, y8f, y8o, y8x⟩ := ar 8 1400 ⟨_, rfl⟩
      obtain ⟨y9, y9k, y9f, y9o, y9x⟩ := ar 9 301 ⟨_, rfl⟩
      obtain ⟨y10, y10k, y10f, y10o, y10x⟩ := ar 10 301 ⟨_, rfl⟩
      obtain ⟨y11, y11k, y11f, y11o, y11x⟩ := ar 11 301 ⟨_, rfl⟩
      obtain ⟨y12, y12k, y12f, y12o, y12x⟩ := ar 12 301 ⟨_, rfl⟩
      obtain ⟨y13, y13k, y13f, y13o, y13x⟩ := ar 13 1400 ⟨_, rfl⟩
      obtain ⟨y14, y14k, y14f, y14o, y14x⟩ := ar 14 24 ⟨_, rfl⟩
      obtain ⟨y15, y15k, y15f, y15o, y15x⟩ := ar 15 2000 ⟨_, rfl⟩
      obtain ⟨y16, y16k, y16f, y16o, y16x⟩ := ar 16 800 ⟨_, rfl⟩
      obtain ⟨y20, y20k, y20f, y20o, y20x⟩ := ar 20 301 ⟨_, rfl⟩
      have dd : ∀ f f2, (f = 8 ∨ f = 9 ∨ f = 10 ∨ f = 11 ∨ f = 12 ∨ f = 13 ∨ f = 14 ∨ f = 15 ∨ f = 16 ∨ f = 20) → (f2 = 8 ∨ f2 = 9 ∨ f2 = 10 ∨ f2 = 11 ∨ f2 = 12 ∨ f2 = 13 ∨ f2 = 14 ∨ f2 = 15 ∨ f2 = 16 ∨ f2 = 20) → f ≠ f2 → xr u21 o f2 = some ((xr u21 o f2).getD 0) → ¬ xr u21 o f = some ((xr u21 o f2).getD 0) := by
        intro f f2 h1 h2 hne hx e
        refine hN f f2 ?_ ?_ hne (e.trans hx.symm)
        · rcases h1 with e | e | e | e | e | e | e | e | e | e <;> subst e <;> exact fun z => by simp [up] at z
        · rcases h2 with e | e | e | e | e | e | e | e | e | e <;> subst e <;> exact fun z => by simp [up] at z
      have kts2 : K20 tb = (1, 5) := by rw [(A tb zt).1]; exact hTb.choose_spec.1
      refine ⟨⟨⟨ko, ?_, ⟨tb, ?_, kts2⟩, ?_, ⟨y8, y8k, ?_⟩, ⟨y9, y9k, ?_⟩, ⟨y10, y10k, ?_⟩, ⟨y11, y11k, ?_⟩, ⟨y12, y12k, ?_⟩, ⟨y13, y13k, ?_⟩, ⟨y14, y14k, ?_⟩, ⟨y15, y15k, ?_⟩, ⟨y16, y16k, ?_⟩, ⟨y20, y20k, ?_⟩⟩, ?_, hTb.fz fz, hT, by rw [(A _ z0).1, k0], ?_, ?_, ?_⟩, e13', ?_, by rw [(A _ z2).1, k2], ?_, ?_, ?_⟩
      · show (if (K o).1 ≠ 0 then _ else _) = _
        rw [if_neg (by omega), if_pos rfl]
      · rw [er o 0 (by omega)]; exact hRf 0 tb rfl
      · rw [er o 21 (by omega)]; exact hRf 21 (a 0) rfl
      · show (if (K ((xr u21 o 8).getD 0)).1 ≠ 0 then _ else if (xr u21 o 8).getD 0 = o then _ else _) = _
        rw [if_neg (by omega), if_neg y8o, if_pos y8x]
      · show (if (K ((xr u21 o 9).getD 0)).1 ≠ 0 then _ else if (xr u21 o 9).getD 0 = o then _ else _) = _
        rw [if_neg (by omega), if_neg y9o, if_neg (dd 8 9 (by omega) (by omega) (by omega) y9x), if_pos y9x]
      · show (if (K ((xr u21 o 10).getD 0)).1 ≠ 0 then _ else if (xr u21 o 10).getD 0 = o then _ else _) = _
        rw [if_neg (by omega), if_neg y10o, if_neg (dd 8 10 (by omega) (by omega) (by omega) y10x), if_neg (dd 9 10 (by omega) (by omega) (by omega) y10x), if_pos y10x]
      · show (if (K ((xr u21 o 11).getD 0)).1 ≠ 0 then _ else if (xr u21 o 11).getD 0 = o then _ else _) = _
        rw [if_neg (by omega), if_neg y11o, if_neg (dd 8 11 (by omega) (by omega) (by omega) y11x), if_neg (dd 9 11 (by omega) (by omega) (by omega) y11x), if_neg (dd 10 11 (by omega) (by omega) (by omega) y11x), if_pos y11x]
      · show (if (K ((xr u21 o 12).getD 0)).1 ≠ 0 then _ else if (xr u21 o 12).getD 0 = o then _ else _) = _
        rw [if_neg (by omega), if_neg y12o, if_neg (dd 8 12 (by omega) (by omega) (by omega) y12x), if_neg (dd 9 12 (by omega) (by omega) (by omega) y12x), if_neg (dd 10 12 (by omega) (by omega) (by omega) y12x), if_neg (dd 11 12 (by omega) (by omega) (by omega) y12x), if_pos y12x]
      · show (if (K ((xr u21 o 13).getD 0)).1 ≠ 0 then _ else if (xr u21 o 13).getD 0 = o then _ else _) = _
        rw [if_neg (by omega), if_neg y13o, if_neg (dd 8 13 (by omega) (by omega) (by omega) y13x), if_neg (dd 9 13 (by omega) (by omega) (by omega) y13x), if_neg (dd 10 13 (by omega) (by omega) (by omega) y13x), if_neg (dd 11 13 (by omega) (by omega) (by omega) y13x), if_neg (dd 12 13 (by omega) (by omega) (by omega) y13x), if_pos y13x]
      · show (if (K ((xr u21 o 14).getD 0)).1 ≠ 0 then _ else if (xr u21 o 14).getD 0 = o then _ else _) = _
        rw [if_neg (by omega), if_neg y14o, if_neg (dd 8 14 (by omega) (by omega) (by omega) y14x), if_neg (dd 9 14 (by omega) (by omega) (by omega) y14x), if_neg (dd 10 14 (by omega) (by omega) (by omega) y14x), if_neg (dd 11 14 (by omega) (by omega) (by omega) y14x), if_neg (dd 12 14 (by omega) (by omega) (by omega) y14x), if_neg (dd 13 14 (by omega) (by omega) (by omega) y14x), if_pos y14x]
      · show (if (K ((xr u21 o 15).getD 0)).1 ≠ 0 then _ else if (xr u21 o 15).getD 0 = o then _ else _) = _
        rw [if_neg (by omega), if_neg y15o, if_neg (dd 8 15 (by omega) (by omega) (by omega) y15x), if_neg (dd 9 15 (by omega) (by omega) (by omega) y15x), if_neg (dd 10 15 (by omega) (by omega) (by omega) y15x), if_neg (dd 11 15 (by omega) (by omega) (by omega) y15x), if_neg (dd 12 15 (by omega) (by omega) (by omega) y15x), if_neg (dd 13 15 (by omega) (by omega) (by omega) y15x), if_neg (dd 14 15 (by omega) (by omega) (by omega) y15x), if_pos y15x]
      · show (if (K ((xr u21 o 16).getD 0)).1 ≠ 0 then _ else if (xr u21 o 16).getD 0 = o then _ else _) = _
        rw [if_neg (by omega), if_neg y16o, if_neg (dd 8 16 (by omega) (by omega) (by omega) y16x), if_neg (dd 9 16 (by omega) (by omega) (by omega) y16x), if_neg (dd 10 16 (by omega) (by omega) (by omega) y16x), if_neg (dd 11 16 (by omega) (by omega) (by omega) y16x), if_neg (dd 12 16 (by omega) (by omega) (by omega) y16x), if_neg (dd 13 16 (by omega) (by omega) (by omega) y16x), if_neg (dd 14 16 (by omega) (by omega) (by omega) y16x), if_neg (dd 15 16 (by omega) (by omega) (by omega) y16x), if_pos y16x]
      · show (if (K ((xr u21 o 20).getD 0)).1 ≠ 0 then _ else if (xr u21 o 20).getD 0 = o then _ else _) = _
        rw [if_neg (by omega), if_neg y20o, if_neg (dd 8 20 (by omega) (by omega) (by omega) y20x), if_neg (dd 9 20 (by omega) (by omega) (by omega) y20x), if_neg (dd 10 20 (by omega) (by omega) (by omega) y20x), if_neg (dd 11 20 (by omega) (by omega) (by omega) y20x), if_neg (dd 12 20 (by omega) (by omega) (by omega) y20x), if_neg (dd 13 20 (by omega) (by omega) (by omega) y20x), if_neg (dd 14 20 (by omega) (by omega) (by omega) y20x), if_neg (dd 15 20 (by omega) (by omega) (by omega) y20x), if_neg (dd 16 20 (by omega) (by omega) (by omega) y20x), if_pos y20x]
      · rw [er o 0 (by omega)]; exact hRf 0 tb rfl
      · rw [er _ 1 (by omega), ((A _ z0).2 1).2.2, p1]
      · rw [(A _ (nz k11 (by simp))).1, k11]
      · show (if (K _).1 ≠ 0 then _ else _) = _
        rw [if_pos (nz k11 (by simp)), o11]
      · rw [er _ 10 (by omega), ((A _ z0).2 10).2.2, p10]
      · rw [er _ 0 (by omega), ((A _ z2).2 0).2.2, ptb]
      · show (if (K _).1 ≠ 0 then _ else _) = _
        rw [if_pos z0, o0]
      · show (if (K _).1 ≠ 0 then _ else _) = _
        rw [if_pos z2, o2]
theorem x_setter {mc ms : Nat} {P : Nat → XK → XS → Prop} (hR : Rep a K ow u m) (hmc : 11 ≤ mc) (hms : 7200 ≤ ms)
    (hP : ∀ s t as K2 ow2 v, XA (a 0) K ow u K2 ow2 v → (∀ k, xi v (a 0) k = xi u (a 0) k) → XS1 a K2 ow2 v s t as (sl m 0) → P s K2 v) : xw0_setter (a 0) K u mc ms P :=
  x_setterS hR hmc hms (fun s t as K2 ow2 v hX hi hS => hP s t as K2 ow2 v hX (fun k => hi _ k (by rw [hR.1.1.1]; decide)) hS)
end XAL
