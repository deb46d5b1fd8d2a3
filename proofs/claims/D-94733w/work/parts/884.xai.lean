/-! PLAIN LAW: the latest writing set without some rules, with the status kept -/
set_option linter.unusedVariables false
/-- what is set does not hang on what lay there before -/
def RW (w v : Nat → Int32) : Prop := w 8 = v 8 ∧ w 9 = v 9
theorem RW.h8 {w v : Nat → Int32} (h : RW w v) : hN w 8 = hN v 8 := congrArg Int32.toNatClampNeg h.1
theorem RW.h9 {w v : Nat → Int32} (h : RW w v) : hN w 9 = hN v 9 := congrArg Int32.toNatClampNeg h.2
theorem RW.u {w v : Nat → Int32} {k : Nat} {x y : Int32} (h : RW w v) (h8 : k ≠ 8) (h9 : k ≠ 9) : RW (up w k x) (up v k y) :=
  ⟨by rw [up_n (by omega), up_n (by omega)]; exact h.1, by rw [up_n (by omega), up_n (by omega)]; exact h.2⟩
theorem RW.s1 {w v : Nat → Int32} {c b : Int32} (h : RW w v) : RW (sS c b w) (sS c b v) := by
  refine ⟨by rw [sS_8, sS_8, h.h8], ?_⟩
  rw [sS_o (by omega) (by omega) (by omega), sS_o (by omega) (by omega) (by omega)]
  exact h.2
theorem RW.i1 {f : Nat → (Nat → Int32) → (Nat → Int32)} (hf : ∀ k w v, RW w v → RW (f k w) (f k v)) {w v : Nat → Int32} (h : RW w v) : ∀ n, RW (it f w n) (it f v n)
  | 0 => h
  | n + 1 => by rw [it_s, it_s]; exact hf n _ _ (RW.i1 hf h n)
theorem RW.r1 {h w v : Nat → Int32} {r : Nat} (hq : RW w v) : RW (srS h r w) (srS h r v) :=
  by
    unfold srS srU
    refine ((RW.i1 (fun k w v hq => ?_) hq _).u (by omega) (by omega)).u (by omega) (by omega)
    exact hq.s1
theorem RW.w1 {h w v : Nat → Int32} {r : Nat} (hq : RW w v) : RW (swS h r w) (swS h r v) := hq.r1.u (by omega) (by omega)
theorem RW.p1 {w v : Nat → Int32} (hq : RW w v) : RW (npS w) (npS v) := by
  unfold npS
  rw [hq.h9]
  split
  · exact hq.s1
  · exact hq
theorem RW.q1 {w v : Nat → Int32} (hq : RW w v) : RW (nqS w) (nqS v) := by
  unfold nqS
  refine ⟨?_, by rw [up_s, up_s, hq.h9]⟩
  rw [up_n (by omega), up_n (by omega), up_n (by omega), up_n (by omega)]
  exact hq.1
/-- bytes that are alike, or both no text -/
def B2 (b c : Nat → Int32) : Prop := ∀ p, b p = c p ∨ (¬ goodB (b p) ∧ ¬ goodB (c p))
theorem B2.refl {b : Nat → Int32} : B2 b b := fun _ => Or.inl rfl
theorem B2.eq {b c : Nat → Int32} (hc : B2 b c) {p : Nat} (h : goodB (b p)) : b p = c p := (hc p).elim id (fun z => absurd h z.1)
theorem B2.iL {b c : Nat → Int32} (hc : B2 b c) (p : Nat) : isL (b p) ↔ isL (c p) := by
  rcases hc p with e | ⟨h1, h2⟩
  · rw [e]
  · exact ⟨fun z => absurd (Or.inr (Or.inl z)) h1, fun z => absurd (Or.inr (Or.inl z)) h2⟩
theorem B2.iB {b c : Nat → Int32} (hc : B2 b c) (p : Nat) : isB (b p) ↔ isB (c p) := by
  rcases hc p with e | ⟨h1, h2⟩
  · rw [e]
  · exact ⟨fun z => absurd (Or.inl z) h1, fun z => absurd (Or.inl z) h2⟩
theorem B2.iD {b c : Nat → Int32} (hc : B2 b c) (p : Nat) : inR (b p) 48 57 ↔ inR (c p) 48 57 := by
  rcases hc p with e | ⟨h1, h2⟩
  · rw [e]
  · exact ⟨fun z => absurd (Or.inr (Or.inr z)) h1, fun z => absurd (Or.inr (Or.inr z)) h2⟩
theorem B2.we {b c : Nat → Int32} (hc : B2 b c) : ∀ f p, weF b f p = weF c f p
  | 0, p => rfl
  | f + 1, p => by
    unfold weF
    by_cases z : isL (b p)
    · rw [if_pos z, if_pos ((hc.iL p).mp z)]; exact B2.we hc f _
    · rw [if_neg z, if_neg (fun q => z ((hc.iL p).mpr q))]
theorem B2.wS {b c : Nat → Int32} (hc : B2 b c) (bn p : Nat) : weS c bn p = weS b bn p := (hc.we _ _).symm
theorem tkS_cong {h b c : Nat → Int32} {g : Int32} {p first last n : Nat} (hbc : ∀ q, p ≤ q → q < last → b q = c q) : tkS h b g p first last n = tkS h c g p first last n := by
  unfold tkS
  refine it_cong n (fun k best hk => ?_)
  unfold tkF
  refine cI_c ?_
  have e : stS h b k p first last ↔ stS h c k p first last := by
    unfold stS
    constructor
    · rintro ⟨h1, h2, h3⟩
      refine ⟨h1, fun q hq => ?_, h3⟩
      have := h2 q hq
      rw [hbc (p + q) (by omega) (by omega)] at this
      exact this
    · rintro ⟨h1, h2, h3⟩
      refine ⟨h1, fun q hq => ?_, h3⟩
      have := h2 q hq
      rw [← hbc (p + q) (by omega) (by omega)] at this
      exact this
  rw [e]
theorem RW.pi2 {b c w v : Nat → Int32} {p : Nat} (hc : B2 b c) (hq : RW w v) : RW (piS b p w) (piS c p v) := by
  have e : (p = 0 ∨ isB (b (p - 1))) ↔ (p = 0 ∨ isB (c (p - 1))) := by rw [hc.iB]
  unfold piS
  by_cases z : p = 0 ∨ isB (b (p - 1))
  · rw [if_pos z, if_pos (e.mp z)]; exact hq.p1.q1
  · rw [if_neg z, if_neg (fun q => z (e.mpr q))]; exact hq
theorem RW.wd {h b c : Nat → Int32} {g : Int32} {first last : Nat} : ∀ f p w v, (∀ q, p ≤ q → q < last → b q = c q) → RW w v → (wdS h b g first last f p w).1 = (wdS h c g first last f p v).1 ∧ RW (wdS h b g first last f p w).2 (wdS h c g first last f p v).2
  | 0, p, w, v, hbc, hq => ⟨rfl, hq⟩
  | f + 1, p, w, v, hbc, hq => by
    by_cases hl : last ≤ p
    · simp only [wdS, if_pos hl]
      exact ⟨trivial, hq⟩
    · have e := hbc p (Nat.le_refl _) (by omega)
      have et : tkS h c g p first last (hN h 0) = tkS h b g p first last (hN h 0) := (tkS_cong hbc).symm
      simp only [wdS, if_neg hl, et, ← e]
      cases tkS h b g p first last (hN h 0) with
      | none => exact ⟨rfl, hq⟩
      | some r =>
        by_cases hG : inR (b p) 65 90
        · by_cases h1 : h 1 = nI 0
          · simp only [if_pos hG, if_pos h1]
            exact ⟨trivial, hq⟩
          · simp only [if_pos hG, if_neg h1]
            exact RW.wd f _ _ _ (fun q h1 h2 => hbc q (by omega) h2) hq.s1.w1
        · simp only [if_neg hG]
          exact RW.wd f _ _ _ (fun q h1 h2 => hbc q (by omega) h2) hq.w1
theorem RW.dg {h b c : Nat → Int32} {g : Int32} (hc : B2 b c) : ∀ f p w v, RW w v → (dgS h b g f p w).1 = (dgS h c g f p v).1 ∧ (dgS h b g f p w).2.1 = (dgS h c g f p v).2.1 ∧ RW (dgS h b g f p w).2.2 (dgS h c g f p v).2.2
  | 0, p, w, v, hq => ⟨rfl, rfl, hq⟩
  | f + 1, p, w, v, hq => by
    by_cases hD : inR (b p) 48 57
    · have e := hc.eq (Or.inr (Or.inr hD))
      simp only [dgS, ← e, if_pos hD]
      cases jsS h (fgL (b p)) g with
      | none => exact ⟨rfl, rfl, hq⟩
      | some r => exact RW.dg hc f _ _ _ hq.r1
    · simp only [dgS, if_neg hD, if_neg (fun q => hD ((hc.iD p).mpr q))]
      exact ⟨trivial, trivial, hq⟩
theorem RW.sa {h b c : Nat → Int32} {g : Int32} {bn : Nat} (hc : B2 b c) : ∀ f p w v, p ≤ bn → RW w v → (saS h b g bn f p w).1 = (saS h c g bn f p v).1 ∧ RW (saS h b g bn f p w).2 (saS h c g bn f p v).2
  | 0, p, w, v, hpb, hq => ⟨rfl, hq⟩
  | f + 1, p, w, v, hpb, hq => by
    by_cases hl : bn ≤ p
    · simp only [saS, if_pos hl]
      exact ⟨trivial, hq⟩
    by_cases hB : isB (b p)
    · simp only [saS, if_neg hl, if_pos hB, if_pos ((hc.iB p).mp hB)]
      exact RW.sa hc f _ _ _ (by omega) hq
    have hB' : ¬ isB (c p) := fun q => hB ((hc.iB p).mpr q)
    by_cases hL : isL (b p)
    · have hL' := (hc.iL p).mp hL
      have n1 : ¬ (¬ isL (b p) ∧ ¬ inR (b p) 48 57) := fun z => z.1 hL
      have n2 : ¬ (¬ isL (c p) ∧ ¬ inR (c p) 48 57) := fun z => z.1 hL'
      simp only [saS, if_neg hl, if_neg hB, if_neg hB', if_neg n1, if_neg n2, if_pos hL, if_pos hL', hc.wS]
      have hin : ∀ q, p ≤ q → q < weS b bn p → b q = c q := fun q h1 h2 => hc.eq (Or.inr (Or.inl (weS_in h1 h2)))
      obtain ⟨e1, e2⟩ := RW.wd (h := h) (b := b) (c := c) (g := g) (first := p) (last := weS b bn p) (weS b bn p - p + 1) p _ _ hin (RW.pi2 (p := p) hc hq)
      have hle : weS b bn p ≤ bn := weS_le (by omega)
      generalize wdS h b g p (weS b bn p) (weS b bn p - p + 1) p (piS b p w) = x at e1 e2
      generalize wdS h c g p (weS b bn p) (weS b bn p - p + 1) p (piS c p v) = y at e1 e2
      obtain ⟨x1, x2⟩ := x
      obtain ⟨y1, y2⟩ := y
      have e1 : x1 = y1 := e1
      subst e1
      cases x1 with
      | none => exact RW.sa hc f _ _ _ hle e2
      | some e => exact ⟨rfl, e2⟩
    have hL' : ¬ isL (c p) := fun q => hL ((hc.iL p).mpr q)
    by_cases hD : inR (b p) 48 57
    · have hD' := (hc.iD p).mp hD
      have n1 : ¬ (¬ isL (b p) ∧ ¬ inR (b p) 48 57) := fun z => z.2 hD
      have n2 : ¬ (¬ isL (c p) ∧ ¬ inR (c p) 48 57) := fun z => z.2 hD'
      by_cases h2 : h 2 = nI 0
      · simp only [saS, if_neg hl, if_neg hB, if_neg hB', if_neg n1, if_neg n2, if_neg hL, if_neg hL', if_pos h2]
        exact ⟨trivial, RW.pi2 hc hq⟩
      · simp only [saS, if_neg hl, if_neg hB, if_neg hB', if_neg n1, if_neg n2, if_neg hL, if_neg hL', if_neg h2]
        obtain ⟨e1, e2, e3⟩ := RW.dg (h := h) (g := g) hc (bn - p + 1) p _ _ ((RW.pi2 (p := p) hc hq).s1 (c := h 2) (b := iM))
        have hle : (dgS h b g (bn - p + 1) p (sS (h 2) iM (piS b p w))).2.1 ≤ bn ∨ True := Or.inr trivial
        generalize dgS h b g (bn - p + 1) p (sS (h 2) iM (piS b p w)) = x at e1 e2 e3
        generalize dgS h c g (bn - p + 1) p (sS (h 2) iM (piS c p v)) = y at e1 e2 e3
        obtain ⟨x1, x2, x3⟩ := x
        obtain ⟨y1, y2, y3⟩ := y
        have e1 : x1 = y1 := e1
        have e2 : x2 = y2 := e2
        subst e1 e2
        cases x1 with
        | none =>
          by_cases hx : x2 ≤ bn
          · exact RW.sa hc f _ _ _ hx e3
          · cases f with
            | zero => exact ⟨rfl, e3⟩
            | succ f =>
              simp only [saS, if_pos (show bn ≤ x2 by omega)]
              exact ⟨trivial, e3⟩
        | some e => exact ⟨rfl, e3⟩
    · have hD' : ¬ inR (c p) 48 57 := fun q => hD ((hc.iD p).mpr q)
      simp only [saS, if_neg hl, if_neg hB, if_neg hB', if_pos (And.intro hL hD), if_pos (And.intro hL' hD')]
      exact ⟨trivial, hq⟩
theorem set_ind2 {h b c : Nat → Int32} {g : Int32} {bn : Nat} (hc : B2 b c) (w v : Nat → Int32) : (setS h b g bn w).1 = (setS h c g bn v).1 ∧ (setS h b g bn w).2 8 = (setS h c g bn v).2 8 := by
  have hz : RW (zrS w) (zrS v) := by
    obtain ⟨a8, a9, _, _⟩ := zrS_0 (w := w)
    obtain ⟨b8, b9, _, _⟩ := zrS_0 (w := v)
    exact ⟨by rw [a8, b8], by rw [a9, b9]⟩
  have := RW.sa (h := h) (g := g) (bn := bn) hc (bn + 1) 0 _ _ (Nat.zero_le _) hz
  exact ⟨this.1, this.2.1⟩
theorem set_ind {h b : Nat → Int32} {g : Int32} {bn : Nat} (w v : Nat → Int32) : (setS h b g bn w).1 = (setS h b g bn v).1 ∧ (setS h b g bn w).2 8 = (setS h b g bn v).2 8 := set_ind2 B2.refl w v
/-- how many cells it takes -/
noncomputable def tbO (h : Nat → Int32) (g : Int32) : Option Nat := match (setS h (bO h) g (hN h 7) h).1 with | some _ => none | none => some (hN (setS h (bO h) g (hN h 7) h).2 8)
theorem tbO_n {h : Nat → Int32} {g : Int32} {w : Nat → Int32} {e : Nat × Nat} (he : (setS h (bO h) g (hN h 7) w).1 = some e) : tbO h g = none := by
  rw [(set_ind w h).1] at he
  unfold tbO; rw [he]
theorem tbO_s {h : Nat → Int32} {g : Int32} {w : Nat → Int32} (he : (setS h (bO h) g (hN h 7) w).1 = none) : tbO h g = some (hN (setS h (bO h) g (hN h 7) w).2 8) := by
  have e2 := congrArg Int32.toNatClampNeg (set_ind (h := h) (b := bO h) (g := g) (bn := hN h 7) w h).2
  rw [(set_ind w h).1] at he
  unfold tbO; rw [he]
  show some _ = some _
  rw [show hN (setS h (bO h) g (hN h 7) w).2 8 = hN (setS h (bO h) g (hN h 7) h).2 8 from e2]
theorem set_8 {h : Nat → Int32} {g : Int32} {w : Nat → Int32} (hT : WT h) (hB : WB (bO h) (hN h 7) w) (he : (setS h (bO h) g (hN h 7) w).1 = none) : (setS h (bO h) g (hN h 7) w).2 8 = nI (hN (setS h (bO h) g (hN h 7) w).2 8) ∧ hN (setS h (bO h) g (hN h 7) w).2 8 ≤ 1250 := by
  have h1 := (setS_ok hT hB he).1
  have := hB.2.1
  exact ⟨h1.1.1, by have := h1.2.2.1; omega⟩
theorem tbO_le {h : Nat → Int32} {g : Int32} {c : Nat} (hT : WT h) (hW : WWs h) (hc : tbO h g = some c) : c ≤ 1250 := by
  have hB := bO_WB hW.1.1 hW.1.2
  cases he : (setS h (bO h) g (hN h 7) h).1 with
  | some e => rw [tbO_n he] at hc; simp at hc
  | none =>
    rw [tbO_s he] at hc
    injection hc with hc
    rw [← hc]; exact (set_8 hT hB he).2
theorem m_takesV {m : MS} {g : Int32} {P : Int32 → MS → Prop} (hT : WT (sl m 0)) (hW : WWs (sl m 0)) (hP : ∀ n, QM m n → P (oI (tbO (sl m 0) g)) n) : mw_takesBy g m P := by
  refine m_takesBy hT hW (fun n hn => ?_)
  have := hP n hn
  unfold tbV
  cases he : (setS (sl m 0) (bO (sl m 0)) g (hN (sl m 0) 7) (lbS m)).1 with
  | none => rw [tbO_s he] at this; rw [(set_8 hT (lbS_WB hW) he).1]; exact this
  | some e => rw [tbO_n he] at this; exact this
section XBI
variable {a : Nat → Nat} {K : XK} {ow : Nat → Nat} {u v : XS} {s t : Nat} {as : Nat → Nat} {h b : Nat → Int32} {bb bn : Nat} {g : Int32} {w : Nat → Int32} {m : MS}
theorem x_allZ {mc ms : Nat} {P : XK → XS → Prop} {PX : Nat → XK → XS → Prop} (hS : xS0 a K ow u s t as h) (hY : xBy K ow u bb b bn) (hB : WB b bn w)
    (hE : ∀ e, (setS h b g bn w).1 = some e → ∀ u2, QZ ow u u2 → xi u2 (a 11) 6 = nI e.1 → xi u2 (a 11) 7 = nI e.2 → PX (a 11) K u2)
    (hP : (setS h b g bn w).1 = none → ∀ u2, QZ ow u u2 → xSt a K ow u2 s t as h bb b bn g → xTop u2 s as (setS h b g bn w).2 → P K u2) : xw6_all s bb (nI bn) g K u mc ms P PX :=
  x_all hS hY hB hE hP
theorem x_toldZ {mc ms : Nat} {P : Nat → XK → XS → Prop} (hT : WT (tkW h w)) (hW : WWs (tkW h w)) (hS : xSt a K ow u s t as h bb b bn g) (hWw : xTop u s as w) (h7 : hN w 7 = bn) (hby : ∀ k, k < bn → w (300 + k) = b k) (hmc : 20 ≤ mc) (hms : 9000 ≤ ms)
    (hP : ∀ v r K2 v2, QZ ow u v → AE K v K2 v2 → (K r).1 = 0 → rWri K2 (fun c => if (K c).1 = 0 then 100 else ow c) v2 r (tkW h w) → P r K2 v2) : xw6_told s K u mc ms P :=
  x_toldAll hT hW hS hWw h7 hby hmc hms hP
/-- the setter is the table's own; the house -/
def XH (a : Nat → Nat) (K : XK) (ow : Nat → Nat) (u : XS) (s t : Nat) (as : Nat → Nat) (h : Nat → Int32) : Prop := XS1 a K ow u s t as h ∧ rHou K ow u (a 2) h
theorem XH.x (hH : XH a K ow u s t as h) (hq : QX ow (a 0) u v) : XH a K ow v s t as h := by
  have o0 : ow (a 0) = 0 := hH.1.2.2.2.2.2.1
  have o2 : ow (a 2) = 2 := hH.1.2.2.2.2.2.2
  exact ⟨hH.1.q hq, hH.2.fz (Fz.xe o0 hq) (hq.2.2 _ _ (by omega)) (hq.1 _ _ (by rw [o2]; unfold xsc; omega) (fun z => by rw [z.1] at o2; omega)) (hq.2.2 _ _ (by omega))⟩
theorem XH.st (hH : XH a K ow u s t as h) (x : Int32) : XH a K ow (xsi u (a 0) 7 x) s t as h := hH.x (QX.st QX.refl)
theorem XH.xt (hH : XH a K ow u s t as h) : XT a K ow u := ⟨s, as, hH.1.2.1, hH.1.1.1⟩
theorem XH.g6 (hH : XH a K ow u s t as h) : xi u (a 2) 1 = h 6 := hH.2.2.2.2.2.1
theorem x_open {mc ms : Nat} {P : Nat → XK → XS → Prop} (hR : Rep a K ow u m) (hmc : 11 ≤ mc) (hms : 7200 ≤ ms)
    (hP : ∀ s t as K2 ow2 v, XA (a 0) K ow u K2 ow2 v → (∀ k, xi v (a 0) k = xi u (a 0) k) → XH a K2 ow2 v s t as (sl m 0) → P s K2 v) : xw0_setter (a 0) K u mc ms P :=
  x_setter hR hmc hms (fun s t as K2 ow2 v hX hi hS => hP s t as K2 ow2 v hX hi ⟨hS, (Rep0.g hR.to0.1 QM.refl hX (by rw [hi]; exact hR.2.1.2.2.2.1)).2.2.2.1⟩)
theorem x_open2 {mc ms : Nat} {P : Nat → XK → XS → Prop} (hR : Rep a K ow u m) (z : Int32) (hmc : 11 ≤ mc) (hms : 7200 ≤ ms)
    (hP : ∀ s t as K2 ow2 v, XA (a 0) K ow u K2 ow2 v → xi v (a 0) 7 = z → XH a K2 ow2 v s t as (sl m 0) → P s K2 v) : xw0_setter (a 0) K (xsi u (a 0) 7 z) mc ms P := by
  refine x_open (hR.st z) hmc hms (fun s t as K2 ow2 v hX hi hH => ?_)
  rw [sl_st] at hH
  exact hP s t as K2 ow2 v ((XA.of (QX.st QX.refl)).trans hX) (by rw [hi, xi_same]) hH
/-- what a set writing leaves -/
def xWo (a : Nat → Nat) (K : XK) (ow : Nat → Nat) (v : XS) (s t : Nat) (as : Nat → Nat) (h : Nat → Int32) (g : Int32) (w : Nat → Int32) : Prop :=
  ∃ bb, (setS h (bO h) g (hN h 7) w).1 = none ∧ xSt a K ow v s t as h bb (bO h) (hN h 7) g ∧ xTop v s as (setS h (bO h) g (hN h 7) w).2
theorem x_woG {mc ms m1 w1 : Nat} {P : Int32 → XK → XS → Prop} (hW : WWs h) (hB : WB (bO h) (hN h 7) w) (hm : m1 ≤ mc) (hw : w1 ≤ ms) (k0 : K (a 0) = (1, 0)) (C : Nat → Nat → (Nat → Nat) → XK → (Nat → Nat) → XS → Prop)
    (hS : ∀ Q : Nat → XK → XS → Prop, (∀ s t as K2 ow2 v, XH a K2 ow2 v s t as h → C s t as K2 ow2 v → Q s K2 v) → xw0_setter (a 0) K u m1 w1 Q)
    (hP : ∀ s t as K2 ow2 v v2, XH a K2 ow2 v s t as h → C s t as K2 ow2 v → QZ ow2 v v2 → (tbO h g = none → P iM K2 v2) ∧ (∀ c, tbO h g = some c → xWo a K2 ow2 v2 s t as h g w → P (nI c) K2 v2)) :
    xw0_setsWithout (a 0) g K u mc ms P := by
  unfold xw0_setsWithout
  refine ⟨k0, m1, w1, hm, hw, hS _ (fun s t as K2 ow2 v hH hC => ?_)⟩
  obtain ⟨hS, h1, h2, kh, ⟨t2, pt2, hTb2⟩, cdr, hwr⟩ := id hH
  obtain ⟨w7, w7l⟩ := hW.1
  rcases hwr with ⟨h7, _⟩ | ⟨_, wr, pw, kw, oww, ⟨q0, pq0, kq0, oq0, v0⟩, _⟩
  · rw [h7] at w7
    exact absurd w7 (by intro z; have := congrArg Int32.toInt z; rw [n_toInt (by omega), iM_toInt] at this; omega)
  obtain ⟨⟨h1s, _, _, _, h5, _, _, _⟩, h9, h10, h11, h12, h13, h14⟩ := id hS
  refine ⟨a 2, h10, h11, wr, pw, kw, a 2, h10, h11, wr, pw, kw, q0, pq0, hN h 7, kq0, q0, pq0, h1s.1, 0, 0, by omega, by omega, ?_⟩
  refine x_allZ hS.1 (bO_xBy hW kq0 oq0 v0) hB (fun e he u2 hq _ _ => (hP s t as K2 ow2 v u2 hH hC hq).1 (tbO_n he)) (fun he u2 hq hSt hTp => ?_)
  refine ⟨0, 0, by omega, by omega, x_setter2 ((hH.x hq.x).1) ⟨hSt.1.1, ?_⟩⟩
  rw [hTp.1, (set_8 h1 hB he).1]
  exact (hP s t as K2 ow2 v u2 hH hC hq).2 _ (tbO_s he) ⟨q0, he, hSt, hTp⟩
theorem x_woR {mc ms : Nat} {P : Int32 → XK → XS → Prop} (hH : XH a K ow u s t as h) (hW : WWs h)
    (hP : ∀ v, QZ ow u v → XH a K ow v s t as h → (tbO h g = none → P iM K v) ∧ (∀ c, tbO h g = some c → xWo a K ow v s t as h g h → P (nI c) K v)) : xw0_setsWithout (a 0) g K u mc ms P := by
  refine x_woG hW (bO_WB hW.1.1 hW.1.2) (Nat.zero_le _) (Nat.zero_le _) hH.1.1.2.2.2.2.1 (fun s' t' as' K' ow' v' => s' = s ∧ t' = t ∧ as' = as ∧ K' = K ∧ ow' = ow ∧ v' = u) (fun Q hQ => x_setter2 hH.1 (hQ s t as K ow u hH ⟨rfl, rfl, rfl, rfl, rfl, rfl⟩)) (fun s' t' as' K' ow' v' v2 hH' hC hq => ?_)
  obtain ⟨rfl, rfl, rfl, rfl, rfl, rfl⟩ := hC
  exact hP v2 hq (hH.x hq.x)
theorem x_wo1w {mc ms : Nat} {P : Int32 → XK → XS → Prop} (hR : Rep a K ow u m) (z : Int32) (hW : WWs (sl m 0)) (hB : WB (bO (sl m 0)) (hN (sl m 0) 7) w) (hmc : 11 ≤ mc) (hms : 7200 ≤ ms)
    (hP : ∀ s t as K2 ow2 v, XA (a 0) K ow u K2 ow2 v → xi v (a 0) 7 = z → XH a K2 ow2 v s t as (sl m 0) → (tbO (sl m 0) g = none → P iM K2 v) ∧ (∀ c, tbO (sl m 0) g = some c → xWo a K2 ow2 v s t as (sl m 0) g w → P (nI c) K2 v)) : xw0_setsWithout (a 0) g K (xsi u (a 0) 7 z) mc ms P := by
  refine x_woG hW hB hmc hms hR.1.1.1 (fun s t as K2 ow2 v => XA (a 0) K ow u K2 ow2 v ∧ xi v (a 0) 7 = z) (fun Q hQ => x_open2 hR z (Nat.le_refl _) (Nat.le_refl _) (fun s t as K2 ow2 v hX hz hH => hQ s t as K2 ow2 v hH ⟨hX, hz⟩)) (fun s t as K2 ow2 v v2 hH hC hq => ?_)
  exact hP s t as K2 ow2 v2 (hC.1.trans (XA.of hq.x)) (by rw [hq.1 _ _ (by rw [hH.1.2.2.2.2.2.1]; unfold xsc; omega), hC.2]) (hH.x hq.x)
theorem x_wo1 {mc ms : Nat} {P : Int32 → XK → XS → Prop} (hR : Rep a K ow u m) (z : Int32) (hW : WWs (sl m 0)) (hmc : 11 ≤ mc) (hms : 7200 ≤ ms)
    (hP : ∀ s t as K2 ow2 v, XA (a 0) K ow u K2 ow2 v → xi v (a 0) 7 = z → XH a K2 ow2 v s t as (sl m 0) → (tbO (sl m 0) g = none → P iM K2 v) ∧ (∀ c, tbO (sl m 0) g = some c → xWo a K2 ow2 v s t as (sl m 0) g (sl m 0) → P (nI c) K2 v)) : xw0_setsWithout (a 0) g K (xsi u (a 0) 7 z) mc ms P :=
  x_wo1w hR z hW (bO_WB hW.1.1 hW.1.2) hmc hms hP
/-- a call that only answers, but may make objects -/
def QA (a : Nat → Nat) (K : XK) (ow : Nat → Nat) (u : XS) (m : MS) (X : Nat → Nat → (Int32 → XK → XS → Prop) → Prop) (M : MS → (Int32 → MS → Prop) → Prop) : Prop :=
  ∃ r st, (∀ mc ms (P : Int32 → XK → XS → Prop), 9000 ≤ mc → 110000 ≤ ms → (∀ K2 ow2 v, XA (a 0) K ow u K2 ow2 v → XT a K2 ow2 v → xi v (a 0) 7 = st → P r K2 v) → X mc ms P) ∧ (∀ P : Int32 → MS → Prop, (∀ n, QM m n → jm_i n 0 1 = st → P r n) → M m P)
end XBI
