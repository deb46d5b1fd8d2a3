/-! PLAIN LAW: press: the words -/
set_option linter.unusedVariables false
def kwI (w : Nat) : Nat := [1, 7, 8, 9, 10, 11, 2, 3, 4, 5, 6].getD w 0
def kwS (w : Nat) : Nat := [1, 6, 14, 21, 28, 33, 38, 44, 50, 57, 61, 67].getD w 0
def kwL (w : Nat) : Nat := xe_len.getD (kwI w) 0
theorem kw_1 : ∀ w : Fin 11, kwI w.val < 12 ∧ 1 ≤ kwL w.val ∧ kwL w.val ≤ 7 ∧ kwS (w.val + 1) = kwS w.val + kwL w.val + 1 ∧ kwS w.val + kwL w.val < 67 ∧ xe_c 0 (kwS w.val + kwL w.val) = nI 32 := by decide +kernel
theorem kw_2 : ∀ w : Fin 11, ∀ k : Fin 7, k.val < kwL w.val → xe_c 0 (kwS w.val + k.val) = xe_c (kwI w.val) k.val ∧ inR (xe_c (kwI w.val) k.val) 97 122 := by decide +kernel
theorem kw_3 : ∀ i : Fin 12, ∀ k : Fin 8, 0 < i.val → k.val < xe_len.getD i.val 0 → inR (xe_c i.val k.val) 97 122 := by decide +kernel
theorem kw_4 : ∀ i : Fin 12, 0 < i.val → 1 ≤ xe_len.getD i.val 0 ∧ xe_len.getD i.val 0 ≤ 7 := by decide +kernel
/-- a token is a word -/
def wdP (b : Nat → Int32) (t : TK) (i : Nat) : Prop := tkk t = 1 ∧ tke t - tkf t = xe_len.getD i 0 ∧ ∀ k, k < xe_len.getD i 0 → b (tkf t + k) = xe_c i k
/-- which word -/
noncomputable def wdI (b : Nat → Int32) (t : TK) : Option Nat := fsS (fun w => wdP b t (kwI w)) 11
theorem kw_d : ∀ i : Fin 12, ∀ j : Fin 12, 0 < i.val → i.val < j.val → xe_len.getD i.val 0 = xe_len.getD j.val 0 → ¬ ∀ k : Fin 7, k.val < xe_len.getD i.val 0 → xe_c i.val k.val = xe_c j.val k.val := by decide +kernel
theorem wdP_lt {b : Nat → Int32} {t : TK} {i j : Nat} (hi : 0 < i) (hij : i < j) (hj : j < 12) (h1 : wdP b t i) (h2 : wdP b t j) : False := by
  have e : xe_len.getD i 0 = xe_len.getD j 0 := h1.2.1.symm.trans h2.2.1
  exact kw_d ⟨i, by omega⟩ ⟨j, hj⟩ hi hij e (fun k hk => by
    rw [← h1.2.2 k.val hk]
    exact h2.2.2 k.val (by rw [← e]; exact hk))
theorem wdP_u {b : Nat → Int32} {t : TK} {i j : Nat} (hi : 0 < i) (hi2 : i < 12) (hj : 0 < j) (hj2 : j < 12) (h1 : wdP b t i) (h2 : wdP b t j) : i = j := by
  rcases Nat.lt_trichotomy i j with h | h | h
  · exact (wdP_lt hi h hj2 h1 h2).elim
  · exact h
  · exact (wdP_lt hj h hi2 h2 h1).elim
theorem kw_i : ∀ w : Fin 11, 0 < kwI w.val ∧ ∀ v : Fin 11, kwI w.val = kwI v.val → w = v := by decide +kernel
theorem wdI_t {b : Nat → Int32} {t : TK} {w : Nat} (hw : w < 11) (h : wdP b t (kwI w)) : wdI b t = some w := by
  cases e : wdI b t with
  | none => exact absurd h (fsS_none e w hw)
  | some v =>
    obtain ⟨h1, h2, _⟩ := fsS_some e
    have z := wdP_u (kw_i ⟨w, hw⟩).1 (kw_1 ⟨w, hw⟩).1 (kw_i ⟨v, h1⟩).1 (kw_1 ⟨v, h1⟩).1 h h2
    have := (kw_i ⟨w, hw⟩).2 ⟨v, h1⟩ z
    exact congrArg some (congrArg Fin.val this).symm
theorem wdI_iff {b : Nat → Int32} {t : TK} {w : Nat} (hw : w < 11) : wdI b t = some w ↔ wdP b t (kwI w) :=
  ⟨fun e => (fsS_some e).2.1, wdI_t hw⟩
theorem wdI_lt {b : Nat → Int32} {t : TK} {w : Nat} (h : wdI b t = some w) : w < 11 ∧ tkk t = 1 := ⟨(fsS_some h).1, (fsS_some h).2.1.1⟩
theorem c_nI {c : Int32} (h : inR c 97 122) : c = nI c.toNatClampNeg ∧ c.toNatClampNeg < 128 := by
  obtain ⟨h1, h2⟩ := h
  rcases pl_ix c 128 with x | x | ⟨j, hj, rfl⟩
  · omega
  · omega
  · rw [n_cl (by omega)]; exact ⟨rfl, hj⟩
section PRC
variable {a : Nat → Nat} {K : XK} {u : XS} {m : MS} {b : Nat → Int32} {n x0 : Nat} {t : TK}
set_option maxHeartbeats 4000000 in
theorem m_inWords {P : Int32 → MS → Prop} (hT : TXm b n m) (hk : TKm m t) (hw : TKw b n t) (hP : P (oI (wdI b t)) m) : mw_inWords 0 m P := by
  obtain ⟨k11, k12, k13, k14, k15⟩ := hk
  obtain ⟨w1, w2, w3, w4, w5, w6, w7⟩ := hw
  have hn := hT.2.2
  unfold mw_inWords
  rw [k11, li_2]
  by_cases hk1 : tkk t = 1
  · have hfe := w3 (by omega)
    refine ⟨fun _ => ?_, fun z => absurd (by rw [hk1]; rfl) z⟩
    have key : ∀ d w, w + d = 11 → (∀ v, v < w → ¬ wdP b t (kwI v)) → mw_inWords_L14 P 0 (d + 1) (nI w) (nI (kwS w)) m := by
      intro d
      induction d with
      | zero =>
        intro w hwd hv
        have e : w = 11 := by omega
        subst e
        have e : wdI b t = none := by
          cases e : wdI b t with
          | none => rfl
          | some v => exact absurd (fsS_some e).2.1 (hv v (fsS_some e).1)
        rw [e] at hP
        unfold mw_inWords_L14 mw_inWords_L14_S
        exact ⟨by omega, fun _ => hP, fun z => absurd (by decide) z⟩
      | succ d ih =>
        intro w hwd hv
        have hw11 : w < 11 := by omega
        obtain ⟨q1, q2, q3, q4, q5, q6⟩ := kw_1 ⟨w, hw11⟩
        simp only at q1 q2 q3 q4 q5 q6
        have q7 : ∀ k, k < kwL w → xe_c 0 (kwS w + k) = xe_c (kwI w) k ∧ inR (xe_c (kwI w) k) 97 122 := fun k hk => kw_2 ⟨w, hw11⟩ ⟨k, by omega⟩ hk
        have hl : xe_len.getD 0 0 = 67 := rfl
        unfold mw_inWords_L14 mw_inWords_L14_S
        rw [hl]
        refine ⟨by omega, fun z => absurd z (by rw [n_le_f (by omega) (by omega)]; exact id), fun _ => ?_⟩
        have nxt : ¬ wdP b t (kwI w) → mw_inWords_L14 P 0 (d + 1) (nI w + nI 1) (nI (kwS w + kwL w) + nI 1) m := fun hno => by
          have := ih (w + 1) (by omega) (fun v hv2 => by
            by_cases z : v = w
            · subst z; exact hno
            · exact hv v (by omega))
          rw [q4] at this
          rw [nI_add, nI_add]
          exact this
        have no0 : ∀ g i, ¬ wdP b t (kwI w) → mw_inWords_L68 (mw_inWords_L14 P 0 (d + 1)) P 0 (nI w) (nI (kwS w)) (nI (kwS w + kwL w)) (g + 1) (nI 0) (nI i) m := fun g i hno => by
          have hB : mw_inWords_B115 (mw_inWords_L14 P 0 (d + 1)) P 0 (nI w) (nI (kwS w + kwL w)) (nI 0) m := by
            unfold mw_inWords_B115
            refine ⟨fun _ v1 e1 v2 e2 => ?_, fun z => absurd rfl z⟩
            subst e1 e2
            exact nxt hno
          unfold mw_inWords_L68 mw_inWords_L68_S
          exact ⟨fun _ => hB, fun _ => ⟨fun _ => hB, fun z => absurd rfl z⟩⟩
        have key2 : ∀ g e, e + g = kwS w + kwL w → kwS w ≤ e → mw_inWords_L25 (mw_inWords_L14 P 0 (d + 1)) P 0 (nI w) (nI (kwS w)) (g + 1) (nI e) m := by
          intro g
          induction g with
          | zero =>
            intro e he1 he2
            have ee : e = kwS w + kwL w := by omega
            subst ee
            unfold mw_inWords_L25 mw_inWords_L25_S
            rw [hl]
            refine ⟨by omega, vp_in_nI (by omega) (by omega), fun _ => ?_, fun z => absurd (by rw [n_cl (by omega), q6]; rfl) z⟩
            rw [k12, k13, n_sub (by omega), n_sub (by omega), show kwS w + kwL w - kwS w = kwL w by omega]
            refine ⟨fun c => ⟨_, no0 0 (kwS w) (fun z => c (by rw [z.2.1]; rfl))⟩, fun c => ?_⟩
            have cl : kwL w = tke t - tkf t := (nI_eq (by omega) (by omega)).mp c
            have key3 : ∀ g i, i + g = kwL w → (∀ j, j < i → b (tkf t + j) = xe_c (kwI w) j) → mw_inWords_L68 (mw_inWords_L14 P 0 (d + 1)) P 0 (nI w) (nI (kwS w)) (nI (kwS w + kwL w)) (g + 1) (nI 1) (nI (kwS w + i)) m := by
              intro g
              induction g with
              | zero =>
                intro i hi hj
                have ei : i = kwL w := by omega
                subst ei
                rw [wdI_t hw11 ⟨hk1, cl.symm, hj⟩] at hP
                unfold mw_inWords_L68 mw_inWords_L68_S mw_inWords_B115
                exact ⟨fun _ => ⟨fun z => absurd z (by decide), fun _ => hP⟩, fun z => absurd (Int32.le_refl _) z⟩
              | succ g ih3 =>
                intro i hi hj
                obtain ⟨q8, q9⟩ := q7 i (by omega)
                obtain ⟨c1, c2⟩ := c_nI q9
                have hb := byV_e (p := tkf t + i) (x := (xe_c (kwI w) i).toNatClampNeg) hT c2
                rw [← c1] at hb
                unfold mw_inWords_L68 mw_inWords_L68_S
                rw [hl]
                refine ⟨fun z => absurd z (by rw [n_le_f (by omega) (by omega)]; exact id), fun _ => ⟨fun z => absurd z (by decide), fun _ => ⟨by omega, vp_in_nI (by omega) (by omega), ?_⟩⟩⟩
                rw [k12, nI_add, n_sub (by omega), show tkf t + (kwS w + i) - kwS w = tkf t + i by omega]
                refine m_bt hT (by omega) ⟨fun c v e => ?_, fun c v e => ?_⟩
                · rw [n_cl (by omega), q8] at c
                  rw [li_1, nI_add] at e
                  subst e
                  exact no0 g _ (fun z => c (hb.mpr ⟨by omega, z.2.2 i (by show i < kwL w; omega)⟩).symm)
                · rw [n_cl (by omega), q8] at c
                  rw [li_1, nI_add] at e
                  subst e
                  have := ih3 (i + 1) (by omega) (fun j hj2 => by
                    by_cases z : j = i
                    · subst z; exact (hb.mp c.symm).2
                    · exact hj j (by omega))
                  exact this
            exact ⟨_, key3 (kwL w) 0 (by omega) (fun j hj => by omega)⟩
          | succ g ih2 =>
            intro e he1 he2
            obtain ⟨q8, q9⟩ := q7 (e - kwS w) (by omega)
            rw [show kwS w + (e - kwS w) = e by omega] at q8
            unfold mw_inWords_L25 mw_inWords_L25_S
            rw [hl]
            refine ⟨by omega, vp_in_nI (by omega) (by omega), fun z => ?_, fun _ v e2 => ?_⟩
            · rw [n_cl (by omega), q8] at z
              rw [z] at q9
              exact absurd q9 (by decide)
            · rw [li_1, nI_add] at e2
              subst e2
              exact ih2 (e + 1) (by omega) (by omega)
        exact ⟨_, key2 (kwL w) (kwS w) (by omega) (Nat.le_refl _)⟩
    exact ⟨_, key 11 0 (by omega) (fun v hv => by omega)⟩
  · have e : wdI b t = none := by
      cases e : wdI b t with
      | none => rfl
      | some v => exact absurd (wdI_lt e).2 hk1
    rw [e] at hP
    refine ⟨fun z => ?_, fun _ => hP⟩
    have : mkK (tkk t) = 2 := (nI_eq (by unfold mkK; split <;> (try split) <;> omega) (by omega)).mp z
    unfold mkK at this
    exact absurd this (by split <;> (try split) <;> omega)
theorem x_isWord {i : Nat} {P : Int32 → XS → Prop} (hT : TXx a b n x0 K u) (hk : TKx x0 u t) (hw : TKw b n t) (hi : 0 < i) (hi2 : i < 12) (hP : P (cI (wdP b t i) (nI 1) (nI 0)) u) : xw8_isWord x0 i K u P := by
  obtain ⟨k3, k1, k2, k4⟩ := hk
  obtain ⟨w1, w2, w3, w4, w5, w6, w7⟩ := hw
  obtain ⟨t1, t2, t3, t4, t5, t6, t7, hn, t9⟩ := hT
  obtain ⟨l1, l2⟩ := kw_4 ⟨i, hi2⟩ hi
  simp only at l1 l2
  unfold xw8_isWord
  rw [k3, k2, k1, n_sub w1, li_1]
  refine ⟨t1, fun c => ?_, fun c => ⟨hi2, fun c2 => ?_, fun c2 => ?_⟩⟩
  · rw [cI_f (fun z => c (by rw [z.1]))] at hP
    exact hP
  · have hk1 : tkk t = 1 := (nI_eq (by omega) (by omega)).mp c
    have hl : tke t - tkf t = xe_len.getD i 0 := (nI_eq (by omega) (by omega)).mp c2
    generalize hL : xe_len.getD i 0 = L at hl l1 l2
    have key : ∀ g k, k + g = L → (∀ j, j < k → b (tkf t + j) = xe_c i j) → xw8_isWord_L28 P K x0 i (g + 1) (nI k) u := by
      intro g
      induction g with
      | zero =>
        intro k hk hj
        have ek : k = L := by omega
        subst ek
        rw [cI_t ⟨hk1, by rw [hL]; exact hl, by rw [hL]; exact hj⟩] at hP
        unfold xw8_isWord_L28 xw8_isWord_L28_S
        rw [hL]
        exact ⟨hi2, fun _ => hP, fun z => absurd (Int32.le_refl _) z⟩
      | succ g ih =>
        intro k hk hj
        unfold xw8_isWord_L28 xw8_isWord_L28_S
        rw [hL, k1]
        refine ⟨hi2, fun z => absurd z (by rw [n_le_f (by omega) (by omega)]; exact id), fun _ => ⟨t1, a 0, t3, t4, a 1, t5, 900, t6, ?_⟩⟩
        rw [nI_add]
        refine ⟨vp_in_nI (by omega) (by omega), vp_in_nI (by omega) (by omega), ?_⟩
        rw [n_cl (by omega), n_cl (by omega), t7 _ (by omega)]
        refine ⟨fun c v e => ?_, fun c => ?_⟩
        · rw [li_1, nI_add] at e
          subst e
          exact ih (k + 1) (by omega) (fun j hj2 => by
            by_cases z : j = k
            · subst z; exact c
            · exact hj j (by omega))
        · rw [cI_f (fun z => c (z.2.2 k (by omega)))] at hP
          exact hP
    exact ⟨_, key L 0 (by omega) (fun j hj => by omega)⟩
  · rw [cI_f (fun z => c2 (by rw [z.2.1]))] at hP
    exact hP
end PRC
