/-! PLAIN LAW: press -/
set_option linter.unusedVariables false
section PRO
variable {a : Nat → Nat} {K K0 K2 : XK} {ow ow2 : Nat → Nat} {u v u0 : XS} {m w : MS} {b h : Nat → Int32} {n tb : Nat}
def pr1 (m : MS) : MS := jm_s (jm_s m 0 9 (nI 0)) 0 16 iM
set_option maxHeartbeats 4000000 in
theorem m_pressR {tn : Nat} {Q : Int32 → MS → Prop} (e9 : jm_i m 0 9 = nI tn) (hn : n ≤ tn) (htn : tn ≤ 900) (ht : ∀ k, k < n → jm_i m 5 k = b k ∧ inR (b k) (-128) 127)
    (hE : ∀ e, psP b n (n + 1) emT 0 (tkA b n 0) = Sum.inl e → ∀ w, FLm (pr1 m) e w → Q iM (jm_s (jm_s w 0 15 (nI e.1)) 0 1 (nI 9)))
    (hS : ∀ h, psP b n (n + 1) emT 0 (tkA b n 0) = Sum.inr h → TBI h → ∀ v, (∀ b k, ¬ scr b k → ¬ (b = 1 ∧ k < 3300) → ¬ (b = 0 ∧ k = 15) → jm_i v b k = jm_i (pr1 m) b k) → (∀ b k, ¬ scr b k → jm_l v b k = jm_l (pr1 m) b k) → (∀ k, k < 3300 → jm_i v 1 k = h k) → jm_i v 0 15 = nI 0 → jm_i v 0 1 = nI 0 → Q (h 0) v) : mw_press (nI n) m Q := by
  unfold mw_press mw_begins
  rw [e9]
  refine ⟨fun z => absurd z (by rw [li_0, n_lt_f (by omega) (by omega)]; exact id), fun _ => ⟨fun z => absurd z (by rw [n_lt_f hn (by omega)]; exact id), fun _ => ⟨fun _ u21 e21 => ?_, fun z => absurd (by rw [li_900, n_le_t (by omega) (by omega)]; trivial) z⟩⟩⟩
  subst e21
  refine lp_st (fun f k v => mw_begins_L26 _ (nI n) f (nI k) v) (fun c v => (∀ b k, ¬ (b = 6) → ¬ (b = 0 ∧ k = 10) → jm_i v b k = jm_i m b k) ∧ (∀ b k, jm_l v b k = jm_l m b k) ∧ jm_i v 0 10 = nI n ∧ ∀ k, k < c → jm_i v 6 k = b k) n 0 _ (Nat.zero_le _)
    ⟨fun b k _ h2 => by simp only [jm_i, jm_s, if_neg h2], fun b k => rfl, jm_same, fun k hk => by omega⟩ (fun f v hI => ?_) (fun f k v hk hI ih => ?_)
  · obtain ⟨h1, h2, h3, h4⟩ := hI
    unfold mw_begins_L26 mw_begins_L26_S
    refine ⟨fun _ u51 e1 u56 e2 u61 e3 u66 e4 u71 e5 => ?_, fun z => absurd (Int32.le_refl _) z⟩
    subst e1 e2 e3 e4 e5
    have hT : TXm b n (jm_s (jm_s (jm_s (jm_s (jm_s v 0 9 (0 : Int32)) 0 17 (0 : Int32)) 0 16 (-1 : Int32)) 0 13 (0 : Int32)) 0 18 (0 : Int32)) := ⟨by rw [jm_ok (by omega), jm_ok (by omega), jm_ok (by omega), jm_ok (by omega), jm_ok (by omega)]; exact h3, fun k hk => ⟨by rw [jm_ob (by omega), jm_ob (by omega), jm_ob (by omega), jm_ob (by omega), jm_ob (by omega)]; exact h4 k hk, (ht k hk).2⟩, by omega⟩
    have hq : QM (pr1 m) (jm_s (jm_s (jm_s (jm_s (jm_s v 0 9 (0 : Int32)) 0 17 (0 : Int32)) 0 16 (-1 : Int32)) 0 13 (0 : Int32)) 0 18 (0 : Int32)) := fun b k q => by
      refine ⟨?_, h2 b k⟩
      have z6 : ¬ b = 6 := fun z => q (by unfold scr; omega)
      have z10 : ¬ (b = 0 ∧ k = 10) := fun z => q (by unfold scr; omega)
      have z17 : ¬ (b = 0 ∧ k = 17) := fun z => q (by unfold scr; omega)
      have z13 : ¬ (b = 0 ∧ k = 13) := fun z => q (by unfold scr; omega)
      have z18 : ¬ (b = 0 ∧ k = 18) := fun z => q (by unfold scr; omega)
      have := h1 b k z6 z10
      unfold pr1
      by_cases c16 : b = 0 ∧ k = 16
      · simp only [jm_i, jm_s, if_neg z13, if_neg z18, if_pos c16]
        rfl
      · by_cases c9 : b = 0 ∧ k = 9
        · simp only [jm_i, jm_s, if_neg z13, if_neg z18, if_neg z17, if_neg c16, if_pos c9]
          rfl
        · simp only [jm_i, jm_s, if_neg z13, if_neg z18, if_neg z17, if_neg c16, if_neg c9]
          exact this
    have h17 : jm_i (jm_s (jm_s (jm_s (jm_s (jm_s v 0 9 (0 : Int32)) 0 17 (0 : Int32)) 0 16 (-1 : Int32)) 0 13 (0 : Int32)) 0 18 (0 : Int32)) 0 17 = nI 0 := by
      rw [jm_ok (by omega), jm_ok (by omega), jm_ok (by omega), jm_same]
      rfl
    have h13 : jm_i (jm_s (jm_s (jm_s (jm_s (jm_s v 0 9 (0 : Int32)) 0 17 (0 : Int32)) 0 16 (-1 : Int32)) 0 13 (0 : Int32)) 0 18 (0 : Int32)) 0 13 = nI 0 := by
      rw [jm_ok (by omega), jm_same]
      rfl
    generalize jm_s (jm_s (jm_s (jm_s (jm_s v 0 9 (0 : Int32)) 0 17 (0 : Int32)) 0 16 (-1 : Int32)) 0 13 (0 : Int32)) 0 18 (0 : Int32) = u1 at hT hq h17 h13 ⊢
    refine m_ahead hT (Nat.zero_le _) h13 (fun w hf hk => ⟨fun _ => ?_, fun z => absurd z (by decide)⟩)
    have hw : TKw b n (tkA b n 0) := tkA_w (Nat.zero_le _)
    refine m_empties (i := 4) (w := w) (by omega) (fun v2 g1 g2 g3 u26 e26 => ?_)
    subst e26
    have gs : ∀ b k, ¬ (b = 1 ∧ 13200 ≤ k) → jm_i v2 b k = jm_i w b k := fun b k hk => g1 b k (fun z => hk (by omega))
    have hP : PRm (pr1 m) b n emT (tkA b n 0) v2 := by
      refine ⟨(hq.trans hf.qm).trans (fun b k q => ⟨gs b k (fun z => q (by unfold scr; omega)), g2 b k⟩), ?_, ?_, by rw [gs _ _ (by omega), hf.1 _ _ (by omega)]; exact h17, g3⟩
      · obtain ⟨q1, q2, q3⟩ := hT.fr hf
        exact ⟨by rw [gs _ _ (by omega)]; exact q1, fun k hk => by rw [gs _ _ (by omega)]; exact q2 k hk, q3⟩
      · obtain ⟨q1, q2, q3, q4, q5⟩ := hk
        exact ⟨by rw [gs _ _ (by omega)]; exact q1, by rw [gs _ _ (by omega)]; exact q2, by rw [gs _ _ (by omega)]; exact q3, fun z => by rw [gs _ _ (by omega)]; exact q4 z, fun z => by rw [gs _ _ (by omega)]; exact q5 z⟩
    refine ⟨_, m_press31 (n + 1) emT 0 (tkA b n 0) (jm_s v2 0 19 (0 : Int32)) (by omega) hP.nu hw emT_ok.1 emT_ok.2 jm_same ?_⟩
    cases ep : psP b n (n + 1) emT 0 (tkA b n 0) with
    | inl e =>
      intro w3 hf3
      have hE2 := hE e ep w3 hf3
      obtain ⟨f1, f2, f3, f4, f5, f6⟩ := hf3
      unfold mw_press_B50
      rw [f3]
      refine ⟨fun _ => ?_, fun z => absurd ((nI_eq (by omega) (by omega)).mp (show nI e.1 = nI 0 from z)) (by omega)⟩
      unfold mw_taken
      intro u5 e5
      rw [f3] at e5
      subst e5
      rw [jm_ok (by omega), f3]
      refine ⟨fun z => absurd z (by rw [li_0, n_le_f (by omega) (by omega)]; exact id), fun _ => ?_⟩
      unfold mw_refuse
      intro u2 e2
      subst e2
      exact hE2
    | inr h =>
      intro w3 t3 hP3 hB3
      refine m_press59 hP3.2.2.2.2 hP3.2.2.2.1 (fun v3 k1 k2 k3 k15 k1' => hS h ep hB3 v3 (fun b k hs hk hk15 => ?_) (fun b k hs => ?_) k3 k15 k1')
      · rw [k1 b k hk (fun z => by
          rcases z.2 with y | y
          · exact hk15 ⟨z.1, y⟩
          · exact hs (by unfold scr; omega))]
        exact (hP3.1 b k hs).1
      · rw [k2]
        exact (hP3.1 b k hs).2
  · obtain ⟨h1, h2, h3, h4⟩ := hI
    have e5 := (ht k hk)
    unfold mw_begins_L26 mw_begins_L26_S
    refine ⟨fun z => absurd z (by rw [n_le_f (by omega) (by omega)]; exact id), fun _ => ⟨vp_in_nI (by omega) (by omega), vp_in_nI (by omega) (by omega), fun u42 e1 v43 e2 => ?_⟩⟩
    rw [n_cl (by omega), h1 5 k (by omega) (by omega), e5.1, b8_id e5.2] at e1
    rw [li_1, nI_add] at e2
    subst e1 e2
    refine ih _ ⟨fun b q z1 z2 => by rw [jm_ob z1]; exact h1 b q z1 z2, fun b q => h2 b q, by rw [jm_ob (by omega)]; exact h3, fun q hq => ?_⟩
    by_cases z : q = k
    · subst z; exact jm_same
    · rw [jm_ok z]; exact h4 q (by omega)
theorem rTab.own {t : Nat} (hT : rTab K ow u t h) (ho : ∀ c, ow c = 100 → ow2 c = 100) : rTab K ow2 u t h := by
  obtain ⟨ra, h1, h2, h3, h4, h5, h6, h7, h8, h9, h10, h11, h12⟩ := hT
  refine ⟨ra, h1, ho _ h2, h3, h4, ho _ h5, h6, h7, h8, h9, h10, h11, fun r hr => ?_⟩
  obtain ⟨o, po, la, ca, q1, q2, q3, q4, q5, q6, q7, q8, q9, q10⟩ := h12 r hr
  exact ⟨o, po, la, ca, q1, ho _ q2, q3, q4, ho _ q5, q6, q7, ho _ q8, q9, q10⟩
/-- owners once objects were made -/
def owN (K0 : XK) (ow : Nat → Nat) : Nat → Nat := fun c => if (K0 c).1 = 0 then 100 else ow c
theorem owN_o {c : Nat} (h : (K0 c).1 ≠ 0) : owN K0 ow c = ow c := if_neg h
/-- what stays, once objects were made and a fault may be told -/
theorem Rep.mde (hR : Rep a K ow u m) (hA : ∀ c, (K c).1 ≠ 0 → K2 c = K c ∧ ∀ k, (c ≠ a 11 → xi v c k = xi u c k) ∧ xl v c k = xl u c k ∧ xr v c k = xr u c k) : Rep a K2 (owN K ow) v m := by
  have q0 : ow (a 0) = 0 := hR.1.2.1 0 (by omega)
  have q11 : ow (a 11) = 11 := hR.1.2.1 11 (by omega)
  have k0 := hR.1.1.1
  have hX : XA (a 0) K ow u K2 (owN K ow) v := ⟨fun c hc => ⟨(hA c hc).1, owN_o hc⟩, fun c k hc hs _ => ((hA c hc).2 k).1 (fun z => hs (by rw [z, q11]; unfold xsc; omega)), fun c k hc _ => ((hA c hc).2 k).2.1, fun c k hc _ _ => ((hA c hc).2 k).2.2⟩
  have z0 : (K (a 0)).1 ≠ 0 := by rw [k0]; decide
  obtain ⟨s, as, hs1, hs2⟩ := hR.2.2.2.2.2
  refine Rep.of0 (Rep0.g hR.to0.1 QM.refl hX ?_) ⟨s, as, by rw [((hA _ z0).2 13).2.2]; exact hs1, XA.set q0 hX hs2⟩
  rw [((hA _ z0).2 7).1 (fun z => by rw [z] at q0; omega)]
  exact hR.2.1.2.2.2.1
end PRO
