set_option linter.unusedVariables false
def xw0_covers_B17 (Post : Int32 → XK → XS → Prop) (mc ms : Nat) (x0 : Nat) (x1 : Int32) (s0 : Int32) (s1 : Nat) (K : XK) (u : XS) (c s : Nat) : Prop :=
  K s1 = (1, 0) ∧
  ∀ u17 : XS, u17 = xsi u s1 7 s0 →
  K x0 = (1, 0) ∧
  ((xi u17 x0 7) ≤ 0 →
    ∃ m30 w30, (c + m30) ≤ mc ∧ (s + w30) ≤ ms ∧ xw0_setter x0 K u17 m30 w30 (fun r30 K30 u30 =>
      ∃ b37, (xr u30 x0 10) = some b37 ∧
      K30 b37 = (1, 4) ∧
      ∃ b40, (xr u30 b37 2) = some b40 ∧
      K30 b40 = (1, 15) ∧
      K30 r30 = (1, 6) ∧
      ∀ u43 : XS, u43 = xsr u30 r30 2 (xr u30 b40 0) →
      ∃ m47 w47, ((c + m30) + m47) ≤ mc ∧ ((s + w30) + w47) ≤ ms ∧ xw0_setter x0 K30 u43 m47 w47 (fun r47 K47 u47 =>
        ∃ b54, (xr u47 x0 10) = some b54 ∧
        K47 b54 = (1, 4) ∧
        ∃ b57, (xr u47 b54 2) = some b57 ∧
        K47 b57 = (1, 15) ∧
        ∃ b60, (xr u47 b57 0) = some b60 ∧
        ∃ n60, K47 b60 = (3, n60) ∧
        K47 r47 = (1, 6) ∧
        ∀ u61 : XS, u61 = xsi u47 r47 3 (nI n60) →
        ∃ m65 w65, (((c + m30) + m47) + m65) ≤ mc ∧ (((s + w30) + w47) + w65) ≤ ms ∧ xw0_setter x0 K47 u61 m65 w65 (fun r65 K65 u65 =>
          ∃ b72, (xr u65 x0 10) = some b72 ∧
          K65 b72 = (1, 4) ∧
          K65 r65 = (1, 6) ∧
          ∀ u75 : XS, u75 = xsi u65 r65 1 (xi u65 b72 1) →
          ∃ m79 w79, ((((c + m30) + m47) + m65) + m79) ≤ mc ∧ ((((s + w30) + w47) + w65) + w79) ≤ ms ∧ xw0_setter x0 K65 u75 m79 w79 (fun r79 K79 u79 =>
            K79 r79 = (1, 6) ∧
            xw6_covers r79 x1 K79 u79 (fun r83 u83 =>
              Post r83 K79 u83)))))) ∧
  (¬ (xi u17 x0 7) ≤ 0 →
    Post (-1 : Int32) K u17)
/-- RaisedPress.covers(I)I -/
def xw0_covers (x0 : Nat) (x1 : Int32) (K : XK) (u : XS) (mc ms : Nat) (Post : Int32 → XK → XS → Prop) : Prop :=
  K x0 = (1, 0) ∧
  xw0_isRule x0 x1 K u (fun r3 u3 =>
    (¬ r3 = 0 →
      xw0_whyNotSet x0 K u3 (fun r14 u14 =>
        xw0_covers_B17 Post mc ms x0 x1 r14 x0 K u14 0 0)) ∧
    (r3 = 0 →
      xw0_covers_B17 Post mc ms x0 x1 (1 : Int32) x0 K u3 0 0))
set_option maxHeartbeats 4000000 in
set_option maxRecDepth 100000 in
theorem txw0_covers_B17 {X : JC} {D : va_G} {dA aK aV : Nat → Nat} {sz : Nat} {K0 : XK} {mc ms : Nat} {Post : Int32 → XK → XS → Prop} {x0 : Nat} {x1 : Int32} {s0 : Int32} {s1 : Nat} {K : XK} {u : XS} {c s : Nat} (hX : JX X yX0_covers.cls cX0_covers 2 (Option.some Jvm.ClassFile.FieldType.int) 4 92 mc ms) (hY : JY X D dA aK aV (AX K0 sz)) (hl : XLe K0 K) (hc : c ≤ mc) (hs : s ≤ ms) (h : xw0_covers_B17 Post mc ms x0 x1 s0 s1 K u c s) : JJ X (AX K0 sz) (jj_Q X (va_Qi (fun (r : Int32) (w : XK × XS) => Post r w.1 w.2) (jx_BA D dA K0 sz) (AX K0 sz)) mc ms (AX K0 sz)) 2 (XP D dA (AX K0 sz) K u) c s 17 [(0, .ref x0), (1, .int x1)] [.int s0, .ref s1] := by
  unfold xw0_covers_B17 at h
  obtain ⟨k17, h⟩ := h
  refine xp0_7 hX hY k17 dX0_covers_17 q418 20 rfl (fun u17 e17 => ?_)
  have h := h u17 e17
  refine jj_aload_n hX dX0_covers_20 0 rfl 21 rfl ?_
  obtain ⟨k21, h⟩ := h
  refine xg0_7 hX hY k21 dX0_covers_21 q418 24 rfl ?_
  refine jj_if_le hX dX0_covers_24 29 27 (by decide) rfl (fun c24 => ?_) (fun c24 => ?_)
  · have h := h.1 c24
    refine jj_aload_n hX dX0_covers_29 0 rfl 30 rfl ?_
    obtain ⟨m30, w30, hc30, hs30, h⟩ := h
    refine kxw0_setter hX hY k21 q875 (Nat.le_of_ble_eq_true rfl) (Nat.le_of_ble_eq_true rfl) hc30 hs30 (Nat.le_of_ble_eq_true rfl) dX0_covers_30 33 rfl h (fun r30 K30 u30 hle30 h => ?_)
    have k30 := hle30.at k17 (by simp)
    have k30_1 := hle30.at k21 (by simp)
    have hl30 := hl.tr hle30
    refine jj_cs (k2 := (c + m30)) (n2 := (s + w30)) (by simp) (by simp) ?_
    refine jj_aload_n hX dX0_covers_33 0 rfl 34 rfl ?_
    refine xg0_10 hX hY k30_1 dX0_covers_34 q421 37 rfl ?_
    obtain ⟨b37, g37, h⟩ := h
    refine jj_st (st2 := [.ref b37, .ref r30]) (by rw [va_rf_some g37]) ?_
    obtain ⟨k37, h⟩ := h
    refine xgn4_2 hX hY k37 dX0_covers_37 nq319 40 rfl ?_
    obtain ⟨b40, g40, h⟩ := h
    refine jj_st (st2 := [.ref b40, .ref r30]) (by rw [va_rf_some g40]) ?_
    obtain ⟨k40, h⟩ := h
    refine xgn15_0 hX hY k40 dX0_covers_40 nq1000 43 rfl ?_
    obtain ⟨k43, h⟩ := h
    refine xpn6_2 (v := (xr u30 b40 0)) hX hY k43 dX0_covers_43 nq339 46 rfl (fun u43 e43 => ?_)
    have h := h u43 e43
    refine jj_aload_n hX dX0_covers_46 0 rfl 47 rfl ?_
    obtain ⟨m47, w47, hc47, hs47, h⟩ := h
    refine kxw0_setter hX hY k30_1 q875 (Nat.le_of_ble_eq_true rfl) (Nat.le_of_ble_eq_true rfl) hc47 hs47 (Nat.le_of_ble_eq_true rfl) dX0_covers_47 50 rfl h (fun r47 K47 u47 hle47 h => ?_)
    have k47 := hle47.at k30 (by simp)
    have k47_1 := hle47.at k30_1 (by simp)
    have k47_2 := hle47.at k37 (by simp)
    have k47_3 := hle47.at k40 (by simp)
    have k47_4 := hle47.at k43 (by simp)
    have hl47 := hl30.tr hle47
    refine jj_cs (k2 := ((c + m30) + m47)) (n2 := ((s + w30) + w47)) (by simp) (by simp) ?_
    refine jj_aload_n hX dX0_covers_50 0 rfl 51 rfl ?_
    refine xg0_10 hX hY k47_1 dX0_covers_51 q421 54 rfl ?_
    obtain ⟨b54, g54, h⟩ := h
    refine jj_st (st2 := [.ref b54, .ref r47]) (by rw [va_rf_some g54]) ?_
    obtain ⟨k54, h⟩ := h
    refine xgn4_2 hX hY k54 dX0_covers_54 nq319 57 rfl ?_
    obtain ⟨b57, g57, h⟩ := h
    refine jj_st (st2 := [.ref b57, .ref r47]) (by rw [va_rf_some g57]) ?_
    obtain ⟨k57, h⟩ := h
    refine xgn15_0 hX hY k57 dX0_covers_57 nq1000 60 rfl ?_
    obtain ⟨b60, g60, h⟩ := h
    refine jj_st (st2 := [.ref b60, .ref r47]) (by rw [va_rf_some g60]) ?_
    obtain ⟨n60, k60, h⟩ := h
    refine jx_alen hX hY.1 k60 dX0_covers_60 61 rfl ?_
    obtain ⟨k61, h⟩ := h
    refine xpn6_3 hX hY k61 dX0_covers_61 nq341 64 rfl (fun u61 e61 => ?_)
    have h := h u61 e61
    refine jj_aload_n hX dX0_covers_64 0 rfl 65 rfl ?_
    obtain ⟨m65, w65, hc65, hs65, h⟩ := h
    refine kxw0_setter hX hY k47_1 q875 (Nat.le_of_ble_eq_true rfl) (Nat.le_of_ble_eq_true rfl) hc65 hs65 (Nat.le_of_ble_eq_true rfl) dX0_covers_65 68 rfl h (fun r65 K65 u65 hle65 h => ?_)
    have k65 := hle65.at k47 (by simp)
    have k65_1 := hle65.at k47_1 (by simp)
    have k65_2 := hle65.at k47_2 (by simp)
    have k65_3 := hle65.at k47_3 (by simp)
    have k65_4 := hle65.at k47_4 (by simp)
    have k65_5 := hle65.at k54 (by simp)
    have k65_6 := hle65.at k57 (by simp)
    have k65_7 := hle65.at k60 (by simp)
    have k65_8 := hle65.at k61 (by simp)
    have hl65 := hl47.tr hle65
    refine jj_cs (k2 := (((c + m30) + m47) + m65)) (n2 := (((s + w30) + w47) + w65)) (by simp) (by simp) ?_
    refine jj_aload_n hX dX0_covers_68 0 rfl 69 rfl ?_
    refine xg0_10 hX hY k65_1 dX0_covers_69 q421 72 rfl ?_
    obtain ⟨b72, g72, h⟩ := h
    refine jj_st (st2 := [.ref b72, .ref r65]) (by rw [va_rf_some g72]) ?_
    obtain ⟨k72, h⟩ := h
    refine xgn4_1 hX hY k72 dX0_covers_72 nq317 75 rfl ?_
    obtain ⟨k75, h⟩ := h
    refine xpn6_1 hX hY k75 dX0_covers_75 nq337 78 rfl (fun u75 e75 => ?_)
    have h := h u75 e75
    refine jj_aload_n hX dX0_covers_78 0 rfl 79 rfl ?_
    obtain ⟨m79, w79, hc79, hs79, h⟩ := h
    refine kxw0_setter hX hY k65_1 q875 (Nat.le_of_ble_eq_true rfl) (Nat.le_of_ble_eq_true rfl) hc79 hs79 (Nat.le_of_ble_eq_true rfl) dX0_covers_79 82 rfl h (fun r79 K79 u79 hle79 h => ?_)
    have k79 := hle79.at k65 (by simp)
    have k79_1 := hle79.at k65_1 (by simp)
    have k79_2 := hle79.at k65_2 (by simp)
    have k79_3 := hle79.at k65_3 (by simp)
    have k79_4 := hle79.at k65_4 (by simp)
    have k79_5 := hle79.at k65_5 (by simp)
    have k79_6 := hle79.at k65_6 (by simp)
    have k79_7 := hle79.at k65_7 (by simp)
    have k79_8 := hle79.at k65_8 (by simp)
    have k79_9 := hle79.at k72 (by simp)
    have k79_10 := hle79.at k75 (by simp)
    have hl79 := hl65.tr hle79
    refine jj_cs (k2 := ((((c + m30) + m47) + m65) + m79)) (n2 := ((((s + w30) + w47) + w65) + w79)) (by simp) (by simp) ?_
    refine jj_iload_n hX dX0_covers_82 1 rfl 83 rfl ?_
    obtain ⟨k83, h⟩ := h
    refine kxw6_covers hX hY k83 q1275 (Nat.le_of_ble_eq_true rfl) (Nat.le_of_ble_eq_true rfl) hc79 hs79 (Nat.le_of_ble_eq_true rfl) dX0_covers_83 86 rfl h (fun r83 u83 h => ?_)
    exact jj_reti (post := (fun (r : Int32) (w : XK × XS) => Post r w.1 w.2)) (u := (K79, u83)) hX dX0_covers_86 hc79 hs79 (jx_hBA hl79) h
  · have h := h.2 c24
    refine jj_iconst hX dX0_covers_27 ci_m1 28 rfl ?_
    exact jj_reti (post := (fun (r : Int32) (w : XK × XS) => Post r w.1 w.2)) (u := (K, u17)) hX dX0_covers_28 hc hs (jx_hBA hl) h
set_option maxHeartbeats 4000000 in
set_option maxRecDepth 100000 in
theorem mxw0_covers (l : Launch) (hfl : l.stackTraces = false) (D : va_G) (dA aK aV : Nat → Nat) (x0 : Nat) (x1 : Int32) (K : XK) (u : XS) (mc ms : Nat) (Post : Int32 → XK → XS → Prop) (h : xw0_covers x0 x1 K u mc ms Post) (sz : Nat) : Met l yX0_covers (ws_ yX0_covers cX0_covers 2 (Option.some Jvm.ClassFile.FieldType.int)) (jx_rm 4 92 mc ms) (jx_Pc D dA aK aV K u sz [.ref x0, .int x1]) (va_Qi (fun (r : Int32) (w : XK × XS) => Post r w.1 w.2) (jx_BA D dA K sz) (AX K sz)) mc ms (AX K sz) := by
  refine jx_start hfl [.ref x0, .int x1] [(0, .ref x0), (1, .int x1)] (by decide) (Nat.le_of_ble_eq_true rfl) rfl (fun X hX hY hin => ?_)
  unfold xw0_covers at h
  refine jj_aload_n hX dX0_covers_0 0 rfl 1 rfl ?_
  refine jj_aload_n hX dX0_covers_1 0 rfl 2 rfl ?_
  refine jj_iload_n hX dX0_covers_2 1 rfl 3 rfl ?_
  obtain ⟨k3, h⟩ := h
  refine kxw0_isRule hX hY k3 q1085 (Nat.le_of_ble_eq_true rfl) (Nat.le_of_ble_eq_true rfl) (Nat.zero_le _) (Nat.zero_le _) (Nat.le_of_ble_eq_true rfl) dX0_covers_3 6 rfl h (fun r3 u3 hb3 h => ?_)
  refine jj_if_ne hX dX0_covers_6 13 9 (by decide) rfl (fun c6 => ?_) (fun c6 => ?_)
  · have h := h.1 c6
    refine jj_aload_n hX dX0_covers_13 0 rfl 14 rfl ?_
    refine kxw0_whyNotSet hX hY k3 q1111 (Nat.le_of_ble_eq_true rfl) (Nat.le_of_ble_eq_true rfl) (Nat.zero_le _) (Nat.zero_le _) (Nat.le_of_ble_eq_true rfl) dX0_covers_14 17 rfl h (fun r14 u14 h => ?_)
    exact txw0_covers_B17 hX hY XLe.rf (Nat.zero_le _) (Nat.zero_le _) h
  · have h := h.2 c6
    refine jj_iconst hX dX0_covers_9 ci_1 10 rfl ?_
    refine jj_goto hX dX0_covers_10 17 (by decide) ?_
    exact txw0_covers_B17 hX hY XLe.rf (Nat.zero_le _) (Nat.zero_le _) h
theorem hd_xw0_covers : yX0_covers.cls ≠ "java/lang/invoke/MethodHandle" ∧ yX0_covers.cls ≠ "java/lang/invoke/VarHandle" ∧ (parseMethodDescriptor yX0_covers.desc).map (fun d => d.parameters.length) = some 1 := by decide +kernel
theorem kxw0_covers {X : JC} {A : Nat → Prop} {Q : State → Prop} {nL k n pc : Nat} {lv : List (Nat × Value)} {st : List Value} {own : String} {cc : ByteArray} {ret : Option FieldType} {F LL mc ms ix mc2 ms2 : Nat} {D : va_G} {dA aK aV : Nat → Nat} {K : XK} {u : XS} {x0 : Nat} {x1 : Int32} {Post : Int32 → XK → XS → Prop} (hX : JX X own cc nL ret F LL mc ms) (hY : JY X D dA aK aV A) (h1a : K x0 = (1, 0)) (hlk : (Cond.methodLink own ix yX0_covers) ∈ lw_all) (hF : 4 + 1 ≤ F) (hL : 8 + (2 + 11) + 92 ≤ LL) (hk : k + mc2 ≤ mc) (hk2 : n + ms2 ≤ ms) (hw : (st.map fun v => v.category).sum ≤ 8) (d : decode cc pc = .ok (.invokevirtual ix, 3)) (q : Nat) (hq : pc + 3 = q) (h : xw0_covers x0 x1 K u mc2 ms2 Post) (kk : ∀ (r : Int32) (K2 : XK) (u2 : XS), XLe K K2 → Post r K2 u2 → JJ X A Q nL (XP D dA A K2 u2) (k + mc2) (n + ms2) q lv (.int r :: st)) : JJ X A Q nL (XP D dA A K u) k n pc lv (.int x1 :: .ref x0 :: st) :=
  jx_callViA (na := 1) (As := [.int x1]) hX hY jf0 h1a (fun sz => mxw0_covers (jj_l X) hY.2.2.2.2 D dA aK aV x0 x1 K u mc2 ms2 Post h sz) hlk q1272 q1273 q120 q1274 ⟨rfl, hd_xw0_covers⟩ rfl rfl hw hF hL hk hk2 d q hq kk
theorem knxw0_covers {X : JC} {A : Nat → Prop} {Q : State → Prop} {nL k n pc : Nat} {lv : List (Nat × Value)} {st : List Value} {own : String} {cc : ByteArray} {ret : Option FieldType} {F LL mc ms ix mc2 ms2 : Nat} {D : va_G} {dA aK aV : Nat → Nat} {K : XK} {u : XS} {x0 : Nat} {x1 : Int32} {host : String} {Post : Int32 → XK → XS → Prop} (hX : JX X own cc nL ret F LL mc ms) (hY : JY X D dA aK aV A) (h1a : K x0 = (1, 0)) (hlk : (Cond.methodLinkNest own ix yX0_covers host) ∈ jx_nest) (hF : 4 + 1 ≤ F) (hL : 8 + (2 + 11) + 92 ≤ LL) (hk : k + mc2 ≤ mc) (hk2 : n + ms2 ≤ ms) (hw : (st.map fun v => v.category).sum ≤ 8) (d : decode cc pc = .ok (.invokevirtual ix, 3)) (q : Nat) (hq : pc + 3 = q) (h : xw0_covers x0 x1 K u mc2 ms2 Post) (kk : ∀ (r : Int32) (K2 : XK) (u2 : XS), XLe K K2 → Post r K2 u2 → JJ X A Q nL (XP D dA A K2 u2) (k + mc2) (n + ms2) q lv (.int r :: st)) : JJ X A Q nL (XP D dA A K u) k n pc lv (.int x1 :: .ref x0 :: st) :=
  jx_callNiA (na := 1) (As := [.int x1]) hX hY jf0 h1a (fun sz => mxw0_covers (jj_l X) hY.2.2.2.2 D dA aK aV x0 x1 K u mc2 ms2 Post h sz) hlk q1272 q1273 q120 q1274 hd_xw0_covers rfl rfl hw hF hL hk hk2 d q hq kk
def xw0_oftenOf_L4_S (Post : Int32 → XS → Prop) (K : XK) (x0 : Nat) (x1 : Int32) (R : Int32 → Int32 → XS → Prop) (x2 : Int32) (x3 : Int32) (u : XS) : Prop :=
  K x0 = (1, 0) ∧
  ∃ b9, (xr u x0 10) = some b9 ∧
  K b9 = (1, 4) ∧
  ∃ b12, (xr u b9 2) = some b12 ∧
  K b12 = (1, 15) ∧
  ∃ b15, (xr u b12 1) = some b15 ∧
  ∃ n15, K b15 = (2, n15) ∧
  ((nI n15) ≤ x3 →
    Post x2 u) ∧
  (¬ (nI n15) ≤ x3 →
    ∃ b24, (xr u x0 10) = some b24 ∧
    K b24 = (1, 4) ∧
    ∃ b27, (xr u b24 2) = some b27 ∧
    K b27 = (1, 15) ∧
    ∃ b31, (xr u b27 1) = some b31 ∧
    ∃ n31, K b31 = (2, n31) ∧
    vp_in x3 n31 ∧
    (¬ (xi u b31 x3.toNatClampNeg) = x1 →
      ∀ v42 : Int32, v42 = (x2 + (0 : Int32)) →
      ∀ v43 : Int32, v43 = x3 + (1 : Int32) →
      R v42 v43 u) ∧
    ((xi u b31 x3.toNatClampNeg) = x1 →
      ∀ v42 : Int32, v42 = (x2 + (1 : Int32)) →
      ∀ v43 : Int32, v43 = x3 + (1 : Int32) →
      R v42 v43 u))
def xw0_oftenOf_L4 (Post : Int32 → XS → Prop) (K : XK) (x0 : Nat) (x1 : Int32) : Nat → Int32 → Int32 → XS → Prop
  | 0 => fun _ _ _ => False
  | n + 1 => fun x2 x3 u => xw0_oftenOf_L4_S Post K x0 x1 (xw0_oftenOf_L4 Post K x0 x1 n) x2 x3 u
/-- RaisedPress.oftenOf(I)I -/
def xw0_oftenOf (x0 : Nat) (x1 : Int32) (K : XK) (u : XS) (Post : Int32 → XS → Prop) : Prop :=
  ∃ n, xw0_oftenOf_L4 Post K x0 x1 n (0 : Int32) (0 : Int32) u
set_option maxHeartbeats 4000000 in
set_option maxRecDepth 100000 in
theorem txw0_oftenOf_L4 {X : JC} {D : va_G} {dA aK aV : Nat → Nat} {sz : Nat} {K : XK} {Post : Int32 → XS → Prop} {x0 : Nat} {x1 : Int32} (hX : JX X yX0_oftenOf.cls cX0_oftenOf 4 (Option.some Jvm.ClassFile.FieldType.int) 0 0 0 0) (hY : JY X D dA aK aV (AX K sz)) : ∀ (n : Nat) (x2 : Int32) (x3 : Int32) (u : XS), xw0_oftenOf_L4 Post K x0 x1 n x2 x3 u → JJ X (AX K sz) (jj_Q X (va_Qi (fun (r : Int32) (w : XS) => Post r w) (jx_B D dA K) (AX K sz)) 0 0 (AX K sz)) 4 (XP D dA (AX K sz) K u) 0 0 4 [(0, .ref x0), (1, .int x1), (2, .int x2), (3, .int x3)] [] := by
  intro n
  induction n with
  | zero =>
    intro x2 x3 u h
    exact h.elim
  | succ n ih =>
    intro x2 x3 u h
    have h : xw0_oftenOf_L4_S Post K x0 x1 (xw0_oftenOf_L4 Post K x0 x1 n) x2 x3 u := h
    unfold xw0_oftenOf_L4_S at h
    refine jj_iload_n hX dX0_oftenOf_4 3 rfl 5 rfl ?_
    refine jj_aload_n hX dX0_oftenOf_5 0 rfl 6 rfl ?_
    obtain ⟨k6, h⟩ := h
    refine xg0_10 hX hY k6 dX0_oftenOf_6 q421 9 rfl ?_
    obtain ⟨b9, g9, h⟩ := h
    refine jj_st (st2 := [.ref b9, .int x3]) (by rw [va_rf_some g9]) ?_
    obtain ⟨k9, h⟩ := h
    refine xgn4_2 hX hY k9 dX0_oftenOf_9 nq319 12 rfl ?_
    obtain ⟨b12, g12, h⟩ := h
    refine jj_st (st2 := [.ref b12, .int x3]) (by rw [va_rf_some g12]) ?_
    obtain ⟨k12, h⟩ := h
    refine xgn15_1 hX hY k12 dX0_oftenOf_12 nq1003 15 rfl ?_
    obtain ⟨b15, g15, h⟩ := h
    refine jj_st (st2 := [.ref b15, .int x3]) (by rw [va_rf_some g15]) ?_
    obtain ⟨n15, k15, h⟩ := h
    refine jx_alen hX hY.1 k15 dX0_oftenOf_15 16 rfl ?_
    refine jj_icmp_ge hX dX0_oftenOf_16 49 19 (by decide) rfl (fun c16 => ?_) (fun c16 => ?_)
    · have h := h.1 c16
      refine jj_iload_n hX dX0_oftenOf_49 2 rfl 50 rfl ?_
      exact jj_reti (post := (fun (r : Int32) (w : XS) => Post r w)) (u := u) hX dX0_oftenOf_50 (Nat.le_refl 0) (Nat.le_refl 0) jx_hB h
    · have h := h.2 c16
      refine jj_iload_n hX dX0_oftenOf_19 2 rfl 20 rfl ?_
      refine jj_aload_n hX dX0_oftenOf_20 0 rfl 21 rfl ?_
      refine xg0_10 hX hY k6 dX0_oftenOf_21 q421 24 rfl ?_
      obtain ⟨b24, g24, h⟩ := h
      refine jj_st (st2 := [.ref b24, .int x2]) (by rw [va_rf_some g24]) ?_
      obtain ⟨k24, h⟩ := h
      refine xgn4_2 hX hY k24 dX0_oftenOf_24 nq319 27 rfl ?_
      obtain ⟨b27, g27, h⟩ := h
      refine jj_st (st2 := [.ref b27, .int x2]) (by rw [va_rf_some g27]) ?_
      obtain ⟨k27, h⟩ := h
      refine xgn15_1 hX hY k27 dX0_oftenOf_27 nq1003 30 rfl ?_
      refine jj_iload_n hX dX0_oftenOf_30 3 rfl 31 rfl ?_
      obtain ⟨b31, g31, h⟩ := h
      refine jj_st (st2 := [.int x3, .ref b31, .int x2]) (by rw [va_rf_some g31]) ?_
      obtain ⟨n31, k31, h⟩ := h
      obtain ⟨hi31, h⟩ := h
      refine jx_iald hX hY.1 k31 _ rfl hi31 dX0_oftenOf_31 32 rfl ?_
      refine jj_iload_n hX dX0_oftenOf_32 1 rfl 33 rfl ?_
      refine jj_icmp_ne hX dX0_oftenOf_33 40 36 (by decide) rfl (fun c33 => ?_) (fun c33 => ?_)
      · have h := h.1 c33
        refine jj_iconst hX dX0_oftenOf_40 ci_0 41 rfl ?_
        refine jj_iadd hX dX0_oftenOf_41 42 rfl ?_
        refine jj_topi (fun v42 e42 => ?_)
        have h := h v42 e42
        refine jj_istore_n (lv2 := [(0, .ref x0), (1, .int x1), (2, .int v42), (3, .int x3)]) hX dX0_oftenOf_42 (Nat.le_of_ble_eq_true rfl) [1, 2, 0, 3] rfl 43 rfl ?_
        obtain ⟨v43, e43⟩ : ∃ y : Int32, y = x3 + (1 : Int32) := ⟨_, rfl⟩
        have h := h v43 e43
        refine jj_iinc (v := v43) (lv2 := [(0, .ref x0), (1, .int x1), (2, .int v42), (3, .int v43)]) hX dX0_oftenOf_43 3 rfl (by rw [e43, ci_1]) (Nat.le_of_ble_eq_true rfl) [1, 2, 3, 0] rfl 46 rfl ?_
        refine jj_goto hX dX0_oftenOf_46 4 (by decide) ?_
        exact ih _ _ _ h
      · have h := h.2 c33
        refine jj_iconst hX dX0_oftenOf_36 ci_1 37 rfl ?_
        refine jj_goto hX dX0_oftenOf_37 41 (by decide) ?_
        refine jj_iadd hX dX0_oftenOf_41 42 rfl ?_
        refine jj_topi (fun v42 e42 => ?_)
        have h := h v42 e42
        refine jj_istore_n (lv2 := [(0, .ref x0), (1, .int x1), (2, .int v42), (3, .int x3)]) hX dX0_oftenOf_42 (Nat.le_of_ble_eq_true rfl) [1, 2, 0, 3] rfl 43 rfl ?_
        obtain ⟨v43, e43⟩ : ∃ y : Int32, y = x3 + (1 : Int32) := ⟨_, rfl⟩
        have h := h v43 e43
        refine jj_iinc (v := v43) (lv2 := [(0, .ref x0), (1, .int x1), (2, .int v42), (3, .int v43)]) hX dX0_oftenOf_43 3 rfl (by rw [e43, ci_1]) (Nat.le_of_ble_eq_true rfl) [1, 2, 3, 0] rfl 46 rfl ?_
        refine jj_goto hX dX0_oftenOf_46 4 (by decide) ?_
        exact ih _ _ _ h
set_option maxHeartbeats 4000000 in
set_option maxRecDepth 100000 in
theorem mxw0_oftenOf (l : Launch) (hfl : l.stackTraces = false) (D : va_G) (dA aK aV : Nat → Nat) (x0 : Nat) (x1 : Int32) (K : XK) (u : XS) (Post : Int32 → XS → Prop) (h : xw0_oftenOf x0 x1 K u Post) (sz : Nat) : Met l yX0_oftenOf (ws_ yX0_oftenOf cX0_oftenOf 4 (Option.some Jvm.ClassFile.FieldType.int)) (jx_rm 0 0 0 0) (jx_Pc D dA aK aV K u sz [.ref x0, .int x1]) (va_Qi (fun (r : Int32) (w : XS) => Post r w) (jx_B D dA K) (AX K sz)) 0 0 (AX K sz) := by
  refine jx_start hfl [.ref x0, .int x1] [(0, .ref x0), (1, .int x1)] (by decide) (Nat.le_of_ble_eq_true rfl) rfl (fun X hX hY hin => ?_)
  unfold xw0_oftenOf at h
  refine jj_iconst hX dX0_oftenOf_0 ci_0 1 rfl ?_
  refine jj_istore_n (lv2 := [(0, .ref x0), (1, .int x1), (2, .int (0 : Int32))]) hX dX0_oftenOf_1 (Nat.le_of_ble_eq_true rfl) [1, 2, 0] rfl 2 rfl ?_
  refine jj_iconst hX dX0_oftenOf_2 ci_0 3 rfl ?_
  refine jj_istore_n (lv2 := [(0, .ref x0), (1, .int x1), (2, .int (0 : Int32)), (3, .int (0 : Int32))]) hX dX0_oftenOf_3 (Nat.le_of_ble_eq_true rfl) [1, 2, 3, 0] rfl 4 rfl ?_
  obtain ⟨n9, h⟩ := h
  exact txw0_oftenOf_L4 hX hY n9 _ _ _ h
theorem hd_xw0_oftenOf : yX0_oftenOf.cls ≠ "java/lang/invoke/MethodHandle" ∧ yX0_oftenOf.cls ≠ "java/lang/invoke/VarHandle" ∧ (parseMethodDescriptor yX0_oftenOf.desc).map (fun d => d.parameters.length) = some 1 := by decide +kernel
theorem kxw0_oftenOf {X : JC} {A : Nat → Prop} {Q : State → Prop} {nL k n pc : Nat} {lv : List (Nat × Value)} {st : List Value} {own : String} {cc : ByteArray} {ret : Option FieldType} {F LL mc ms ix : Nat} {D : va_G} {dA aK aV : Nat → Nat} {K : XK} {u : XS} {x0 : Nat} {x1 : Int32} {Post : Int32 → XS → Prop} (hX : JX X own cc nL ret F LL mc ms) (hY : JY X D dA aK aV A) (h1a : K x0 = (1, 0)) (hlk : (Cond.methodLink own ix yX0_oftenOf) ∈ lw_all) (hF : 0 + 1 ≤ F) (hL : 8 + (4 + 11) + 0 ≤ LL) (hk : k ≤ mc) (hk2 : n ≤ ms) (hw : (st.map fun v => v.category).sum ≤ 8) (d : decode cc pc = .ok (.invokevirtual ix, 3)) (q : Nat) (hq : pc + 3 = q) (h : xw0_oftenOf x0 x1 K u  Post) (kk : ∀ (r : Int32) (u2 : XS), Post r u2 → JJ X A Q nL (XP D dA A K u2) k n q lv (.int r :: st)) : JJ X A Q nL (XP D dA A K u) k n pc lv (.int x1 :: .ref x0 :: st) :=
  jx_callVi (na := 1) (As := [.int x1]) hX hY jf0 h1a (fun sz => mxw0_oftenOf (jj_l X) hY.2.2.2.2 D dA aK aV x0 x1 K u  Post h sz) hlk q1286 qs42 q120 q1287 ⟨rfl, hd_xw0_oftenOf⟩ rfl rfl hw hF hL hk hk2 d q hq kk
theorem knxw0_oftenOf {X : JC} {A : Nat → Prop} {Q : State → Prop} {nL k n pc : Nat} {lv : List (Nat × Value)} {st : List Value} {own : String} {cc : ByteArray} {ret : Option FieldType} {F LL mc ms ix : Nat} {D : va_G} {dA aK aV : Nat → Nat} {K : XK} {u : XS} {x0 : Nat} {x1 : Int32} {host : String} {Post : Int32 → XS → Prop} (hX : JX X own cc nL ret F LL mc ms) (hY : JY X D dA aK aV A) (h1a : K x0 = (1, 0)) (hlk : (Cond.methodLinkNest own ix yX0_oftenOf host) ∈ jx_nest) (hF : 0 + 1 ≤ F) (hL : 8 + (4 + 11) + 0 ≤ LL) (hk : k ≤ mc) (hk2 : n ≤ ms) (hw : (st.map fun v => v.category).sum ≤ 8) (d : decode cc pc = .ok (.invokevirtual ix, 3)) (q : Nat) (hq : pc + 3 = q) (h : xw0_oftenOf x0 x1 K u  Post) (kk : ∀ (r : Int32) (u2 : XS), Post r u2 → JJ X A Q nL (XP D dA A K u2) k n q lv (.int r :: st)) : JJ X A Q nL (XP D dA A K u) k n pc lv (.int x1 :: .ref x0 :: st) :=
  jx_callNi (na := 1) (As := [.int x1]) hX hY jf0 h1a (fun sz => mxw0_oftenOf (jj_l X) hY.2.2.2.2 D dA aK aV x0 x1 K u  Post h sz) hlk q1286 qs42 q120 q1287 hd_xw0_oftenOf rfl rfl hw hF hL hk hk2 d q hq kk
def xw0_often_B21 (Post : Int32 → XS → Prop) (K : XK) (x0 : Nat) (x1 : Int32) (s0 : Int32) (s1 : Nat) (u : XS) : Prop :=
  K s1 = (1, 0) ∧
  ∀ u21 : XS, u21 = xsi u s1 7 s0 →
  K x0 = (1, 0) ∧
  ((xi u21 x0 7) ≤ 0 →
    xw0_oftenOf x0 x1 K u21 (fun r37 u37 =>
      Post r37 u37)) ∧
  (¬ (xi u21 x0 7) ≤ 0 →
    Post (-1 : Int32) u21)
/-- RaisedPress.often(I)I -/
def xw0_often (x0 : Nat) (x1 : Int32) (K : XK) (u : XS) (Post : Int32 → XS → Prop) : Prop :=
  xs_isIn x1.toInt64 (0 : Int64) (63 : Int64) (fun r7 =>
    (¬ r7 = 0 →
      K x0 = (1, 0) ∧
      xw0_whyNotSet x0 K u (fun r18 u18 =>
        xw0_often_B21 Post K x0 x1 r18 x0 u18)) ∧
    (r7 = 0 →
      xw0_often_B21 Post K x0 x1 (1 : Int32) x0 u))
set_option maxHeartbeats 4000000 in
set_option maxRecDepth 100000 in
theorem txw0_often_B21 {X : JC} {D : va_G} {dA aK aV : Nat → Nat} {sz : Nat} {K : XK} {Post : Int32 → XS → Prop} {x0 : Nat} {x1 : Int32} {s0 : Int32} {s1 : Nat} {u : XS} (hX : JX X yX0_often.cls cX0_often 2 (Option.some Jvm.ClassFile.FieldType.int) 2 40 0 0) (hY : JY X D dA aK aV (AX K sz)) (h : xw0_often_B21 Post K x0 x1 s0 s1 u) : JJ X (AX K sz) (jj_Q X (va_Qi (fun (r : Int32) (w : XS) => Post r w) (jx_B D dA K) (AX K sz)) 0 0 (AX K sz)) 2 (XP D dA (AX K sz) K u) 0 0 21 [(0, .ref x0), (1, .int x1)] [.int s0, .ref s1] := by
  unfold xw0_often_B21 at h
  obtain ⟨k21, h⟩ := h
  refine xp0_7 hX hY k21 dX0_often_21 q418 24 rfl (fun u21 e21 => ?_)
  have h := h u21 e21
  refine jj_aload_n hX dX0_often_24 0 rfl 25 rfl ?_
  obtain ⟨k25, h⟩ := h
  refine xg0_7 hX hY k25 dX0_often_25 q418 28 rfl ?_
  refine jj_if_le hX dX0_often_28 35 31 (by decide) rfl (fun c28 => ?_) (fun c28 => ?_)
  · have h := h.1 c28
    refine jj_aload_n hX dX0_often_35 0 rfl 36 rfl ?_
    refine jj_iload_n hX dX0_often_36 1 rfl 37 rfl ?_
    refine kxw0_oftenOf hX hY k25 q1284 (Nat.le_of_ble_eq_true rfl) (Nat.le_of_ble_eq_true rfl) (Nat.zero_le _) (Nat.zero_le _) (Nat.le_of_ble_eq_true rfl) dX0_often_37 40 rfl h (fun r37 u37 h => ?_)
    exact jj_reti (post := (fun (r : Int32) (w : XS) => Post r w)) (u := u37) hX dX0_often_40 (Nat.le_refl 0) (Nat.le_refl 0) jx_hB h
  · have h := h.2 c28
    refine jj_iconst hX dX0_often_31 ci_m1 32 rfl ?_
    refine jj_goto hX dX0_often_32 40 (by decide) ?_
    exact jj_reti (post := (fun (r : Int32) (w : XS) => Post r w)) (u := u21) hX dX0_often_40 (Nat.le_refl 0) (Nat.le_refl 0) jx_hB h
set_option maxHeartbeats 4000000 in
set_option maxRecDepth 100000 in
theorem mxw0_often (l : Launch) (hfl : l.stackTraces = false) (D : va_G) (dA aK aV : Nat → Nat) (x0 : Nat) (x1 : Int32) (K : XK) (u : XS) (Post : Int32 → XS → Prop) (h : xw0_often x0 x1 K u Post) (sz : Nat) : Met l yX0_often (ws_ yX0_often cX0_often 2 (Option.some Jvm.ClassFile.FieldType.int)) (jx_rm 2 40 0 0) (jx_Pc D dA aK aV K u sz [.ref x0, .int x1]) (va_Qi (fun (r : Int32) (w : XS) => Post r w) (jx_B D dA K) (AX K sz)) 0 0 (AX K sz) := by
  refine jx_start hfl [.ref x0, .int x1] [(0, .ref x0), (1, .int x1)] (by decide) (Nat.le_of_ble_eq_true rfl) rfl (fun X hX hY hin => ?_)
  unfold xw0_often at h
  refine jj_aload_n hX dX0_often_0 0 rfl 1 rfl ?_
  refine jj_iload_n hX dX0_often_1 1 rfl 2 rfl ?_
  refine jj_i2l hX dX0_often_2 3 rfl ?_
  refine jj_lconst (v := 0) hX dX0_often_3 (by decide) 4 rfl ?_
  refine jj_ldc2 (v := 63) hX dX0_often_4 q1283 7 rfl ?_
  refine kxs_isIn hX XP.keeps q1074 (Nat.le_of_ble_eq_true rfl) (Nat.le_of_ble_eq_true rfl) (Nat.zero_le _) (Nat.zero_le _) (Nat.le_of_ble_eq_true rfl) dX0_often_7 10 rfl h (fun r7 hb7 h => ?_)
  refine jj_if_ne hX dX0_often_10 17 13 (by decide) rfl (fun c10 => ?_) (fun c10 => ?_)
  · have h := h.1 c10
    refine jj_aload_n hX dX0_often_17 0 rfl 18 rfl ?_
    obtain ⟨k18, h⟩ := h
    refine kxw0_whyNotSet hX hY k18 q1111 (Nat.le_of_ble_eq_true rfl) (Nat.le_of_ble_eq_true rfl) (Nat.zero_le _) (Nat.zero_le _) (Nat.le_of_ble_eq_true rfl) dX0_often_18 21 rfl h (fun r18 u18 h => ?_)
    exact txw0_often_B21 hX hY h
  · have h := h.2 c10
    refine jj_iconst hX dX0_often_13 ci_1 14 rfl ?_
    refine jj_goto hX dX0_often_14 21 (by decide) ?_
    exact txw0_often_B21 hX hY h
theorem hd_xw0_often : yX0_often.cls ≠ "java/lang/invoke/MethodHandle" ∧ yX0_often.cls ≠ "java/lang/invoke/VarHandle" ∧ (parseMethodDescriptor yX0_often.desc).map (fun d => d.parameters.length) = some 1 := by decide +kernel
theorem kxw0_often {X : JC} {A : Nat → Prop} {Q : State → Prop} {nL k n pc : Nat} {lv : List (Nat × Value)} {st : List Value} {own : String} {cc : ByteArray} {ret : Option FieldType} {F LL mc ms ix : Nat} {D : va_G} {dA aK aV : Nat → Nat} {K : XK} {u : XS} {x0 : Nat} {x1 : Int32} {Post : Int32 → XS → Prop} (hX : JX X own cc nL ret F LL mc ms) (hY : JY X D dA aK aV A) (h1a : K x0 = (1, 0)) (hlk : (Cond.methodLink own ix yX0_often) ∈ lw_all) (hF : 2 + 1 ≤ F) (hL : 8 + (2 + 11) + 40 ≤ LL) (hk : k ≤ mc) (hk2 : n ≤ ms) (hw : (st.map fun v => v.category).sum ≤ 8) (d : decode cc pc = .ok (.invokevirtual ix, 3)) (q : Nat) (hq : pc + 3 = q) (h : xw0_often x0 x1 K u  Post) (kk : ∀ (r : Int32) (u2 : XS), Post r u2 → JJ X A Q nL (XP D dA A K u2) k n q lv (.int r :: st)) : JJ X A Q nL (XP D dA A K u) k n pc lv (.int x1 :: .ref x0 :: st) :=
  jx_callVi (na := 1) (As := [.int x1]) hX hY jf0 h1a (fun sz => mxw0_often (jj_l X) hY.2.2.2.2 D dA aK aV x0 x1 K u  Post h sz) hlk q1280 q1281 q120 q1282 ⟨rfl, hd_xw0_often⟩ rfl rfl hw hF hL hk hk2 d q hq kk
theorem knxw0_often {X : JC} {A : Nat → Prop} {Q : State → Prop} {nL k n pc : Nat} {lv : List (Nat × Value)} {st : List Value} {own : String} {cc : ByteArray} {ret : Option FieldType} {F LL mc ms ix : Nat} {D : va_G} {dA aK aV : Nat → Nat} {K : XK} {u : XS} {x0 : Nat} {x1 : Int32} {host : String} {Post : Int32 → XS → Prop} (hX : JX X own cc nL ret F LL mc ms) (hY : JY X D dA aK aV A) (h1a : K x0 = (1, 0)) (hlk : (Cond.methodLinkNest own ix yX0_often host) ∈ jx_nest) (hF : 2 + 1 ≤ F) (hL : 8 + (2 + 11) + 40 ≤ LL) (hk : k ≤ mc) (hk2 : n ≤ ms) (hw : (st.map fun v => v.category).sum ≤ 8) (d : decode cc pc = .ok (.invokevirtual ix, 3)) (q : Nat) (hq : pc + 3 = q) (h : xw0_often x0 x1 K u  Post) (kk : ∀ (r : Int32) (u2 : XS), Post r u2 → JJ X A Q nL (XP D dA A K u2) k n q lv (.int r :: st)) : JJ X A Q nL (XP D dA A K u) k n pc lv (.int x1 :: .ref x0 :: st) :=
  jx_callNi (na := 1) (As := [.int x1]) hX hY jf0 h1a (fun sz => mxw0_often (jj_l X) hY.2.2.2.2 D dA aK aV x0 x1 K u  Post h sz) hlk q1280 q1281 q120 q1282 hd_xw0_often rfl rfl hw hF hL hk hk2 d q hq kk
def xw0_commonest_L6_S (Post : Int32 → XS → Prop) (K : XK) (x0 : Nat) (R : Int32 → Int32 → Int32 → XS → Prop) (x1 : Int32) (x2 : Int32) (x3 : Int32) (u : XS) : Prop :=
  ((63 : Int32) < x3 →
    K x0 = (1, 0) ∧
    xw0_answer x0 x1 K u (fun r47 u47 =>
      Post r47 u47)) ∧
  (¬ (63 : Int32) < x3 →
    K x0 = (1, 0) ∧
    xw0_isSet x0 K u (fun r13 u13 =>
      (r13 = 0 →
        xw0_answer x0 x1 K u13 (fun r47 u47 =>
          Post r47 u47)) ∧
      (¬ r13 = 0 →
        xw0_oftenOf x0 x3 K u13 (fun r21 u21 =>
          (x2 < r21 →
            xw0_oftenOf x0 x3 K u21 (fun r33 u33 =>
              ∀ v39 : Int32, v39 = x3 + (1 : Int32) →
              R x3 r33 v39 u33)) ∧
          (¬ x2 < r21 →
            ∀ v39 : Int32, v39 = x3 + (1 : Int32) →
            R x1 x2 v39 u21)))))
def xw0_commonest_L6 (Post : Int32 → XS → Prop) (K : XK) (x0 : Nat) : Nat → Int32 → Int32 → Int32 → XS → Prop
  | 0 => fun _ _ _ _ => False
  | n + 1 => fun x1 x2 x3 u => xw0_commonest_L6_S Post K x0 (xw0_commonest_L6 Post K x0 n) x1 x2 x3 u
/-- RaisedPress.commonest()I -/
def xw0_commonest (x0 : Nat) (K : XK) (u : XS) (Post : Int32 → XS → Prop) : Prop :=
  ∃ n, xw0_commonest_L6 Post K x0 n (-1 : Int32) (0 : Int32) (1 : Int32) u
set_option maxHeartbeats 4000000 in
set_option maxRecDepth 100000 in
theorem txw0_commonest_L6 {X : JC} {D : va_G} {dA aK aV : Nat → Nat} {sz : Nat} {K : XK} {Post : Int32 → XS → Prop} {x0 : Nat} (hX : JX X yX0_commonest.cls cX0_commonest 4 (Option.some Jvm.ClassFile.FieldType.int) 1 23 0 0) (hY : JY X D dA aK aV (AX K sz)) : ∀ (n : Nat) (x1 : Int32) (x2 : Int32) (x3 : Int32) (u : XS), xw0_commonest_L6 Post K x0 n x1 x2 x3 u → JJ X (AX K sz) (jj_Q X (va_Qi (fun (r : Int32) (w : XS) => Post r w) (jx_B D dA K) (AX K sz)) 0 0 (AX K sz)) 4 (XP D dA (AX K sz) K u) 0 0 6 [(0, .ref x0), (1, .int x1), (2, .int x2), (3, .int x3)] [] := by
  intro n
  induction n with
  | zero =>
    intro x1 x2 x3 u h
    exact h.elim
  | succ n ih =>
    intro x1 x2 x3 u h
    have h : xw0_commonest_L6_S Post K x0 (xw0_commonest_L6 Post K x0 n) x1 x2 x3 u := h
    unfold xw0_commonest_L6_S at h
    refine jj_iload_n hX dX0_commonest_6 3 rfl 7 rfl ?_
    refine jj_bipush hX dX0_commonest_7 cb_63 9 rfl ?_
    refine jj_icmp_gt hX dX0_commonest_9 45 12 (by decide) rfl (fun c9 => ?_) (fun c9 => ?_)
    · have h := h.1 c9
      refine jj_aload_n hX dX0_commonest_45 0 rfl 46 rfl ?_
      refine jj_iload_n hX dX0_commonest_46 1 rfl 47 rfl ?_
      obtain ⟨k47, h⟩ := h
      refine kxw0_answer hX hY k47 q1077 (Nat.le_of_ble_eq_true rfl) (Nat.le_of_ble_eq_true rfl) (Nat.zero_le _) (Nat.zero_le _) (Nat.le_of_ble_eq_true rfl) dX0_commonest_47 50 rfl h (fun r47 u47 h => ?_)
      exact jj_reti (post := (fun (r : Int32) (w : XS) => Post r w)) (u := u47) hX dX0_commonest_50 (Nat.le_refl 0) (Nat.le_refl 0) jx_hB h
    · have h := h.2 c9
      refine jj_aload_n hX dX0_commonest_12 0 rfl 13 rfl ?_
      obtain ⟨k13, h⟩ := h
      refine kxw0_isSet hX hY k13 q1115 (Nat.le_of_ble_eq_true rfl) (Nat.le_of_ble_eq_true rfl) (Nat.zero_le _) (Nat.zero_le _) (Nat.le_of_ble_eq_true rfl) dX0_commonest_13 16 rfl h (fun r13 u13 hb13 h => ?_)
      refine jj_if_eq hX dX0_commonest_16 45 19 (by decide) rfl (fun c16 => ?_) (fun c16 => ?_)
      · have h := h.1 c16
        refine jj_aload_n hX dX0_commonest_45 0 rfl 46 rfl ?_
        refine jj_iload_n hX dX0_commonest_46 1 rfl 47 rfl ?_
        refine kxw0_answer hX hY k13 q1077 (Nat.le_of_ble_eq_true rfl) (Nat.le_of_ble_eq_true rfl) (Nat.zero_le _) (Nat.zero_le _) (Nat.le_of_ble_eq_true rfl) dX0_commonest_47 50 rfl h (fun r47 u47 h => ?_)
        exact jj_reti (post := (fun (r : Int32) (w : XS) => Post r w)) (u := u47) hX dX0_commonest_50 (Nat.le_refl 0) (Nat.le_refl 0) jx_hB h
      · have h := h.2 c16
        refine jj_aload_n hX dX0_commonest_19 0 rfl 20 rfl ?_
        refine jj_iload_n hX dX0_commonest_20 3 rfl 21 rfl ?_
        refine kxw0_oftenOf hX hY k13 q1284 (Nat.le_of_ble_eq_true rfl) (Nat.le_of_ble_eq_true rfl) (Nat.zero_le _) (Nat.zero_le _) (Nat.le_of_ble_eq_true rfl) dX0_commonest_21 24 rfl h (fun r21 u21 h => ?_)
        refine jj_iload_n hX dX0_commonest_24 2 rfl 25 rfl ?_
        refine jj_icmp_gt hX dX0_commonest_25 31 28 (by decide) rfl (fun c25 => ?_) (fun c25 => ?_)
        · have h := h.1 c25
          refine jj_aload_n hX dX0_commonest_31 0 rfl 32 rfl ?_
          refine jj_iload_n hX dX0_commonest_32 3 rfl 33 rfl ?_
          refine kxw0_oftenOf hX hY k13 q1284 (Nat.le_of_ble_eq_true rfl) (Nat.le_of_ble_eq_true rfl) (Nat.zero_le _) (Nat.zero_le _) (Nat.le_of_ble_eq_true rfl) dX0_commonest_33 36 rfl h (fun r33 u33 h => ?_)
          refine jj_istore_n (lv2 := [(0, .ref x0), (2, .int r33), (3, .int x3)]) hX dX0_commonest_36 (Nat.le_of_ble_eq_true rfl) [1, 0, 3] rfl 37 rfl ?_
          refine jj_iload_n hX dX0_commonest_37 2 rfl 38 rfl ?_
          refine jj_istore_n (lv2 := [(0, .ref x0), (1, .int x3), (2, .int r33), (3, .int x3)]) hX dX0_commonest_38 (Nat.le_of_ble_eq_true rfl) [1, 0, 2, 3] rfl 39 rfl ?_
          obtain ⟨v39, e39⟩ : ∃ y : Int32, y = x3 + (1 : Int32) := ⟨_, rfl⟩
          have h := h v39 e39
          refine jj_iinc (v := v39) (lv2 := [(0, .ref x0), (1, .int x3), (2, .int r33), (3, .int v39)]) hX dX0_commonest_39 3 rfl (by rw [e39, ci_1]) (Nat.le_of_ble_eq_true rfl) [1, 2, 3, 0] rfl 42 rfl ?_
          refine jj_goto hX dX0_commonest_42 6 (by decide) ?_
          exact ih _ _ _ _ h
        · have h := h.2 c25
          refine jj_goto hX dX0_commonest_28 39 (by decide) ?_
          obtain ⟨v39, e39⟩ : ∃ y : Int32, y = x3 + (1 : Int32) := ⟨_, rfl⟩
          have h := h v39 e39
          refine jj_iinc (v := v39) (lv2 := [(0, .ref x0), (1, .int x1), (2, .int x2), (3, .int v39)]) hX dX0_commonest_39 3 rfl (by rw [e39, ci_1]) (Nat.le_of_ble_eq_true rfl) [1, 2, 3, 0] rfl 42 rfl ?_
          refine jj_goto hX dX0_commonest_42 6 (by decide) ?_
          exact ih _ _ _ _ h
set_option maxHeartbeats 4000000 in
set_option maxRecDepth 100000 in
theorem mxw0_commonest (l : Launch) (hfl : l.stackTraces = false) (D : va_G) (dA aK aV : Nat → Nat) (x0 : Nat) (K : XK) (u : XS) (Post : Int32 → XS → Prop) (h : xw0_commonest x0 K u Post) (sz : Nat) : Met l yX0_commonest (ws_ yX0_commonest cX0_commonest 4 (Option.some Jvm.ClassFile.FieldType.int)) (jx_rm 1 23 0 0) (jx_Pc D dA aK aV K u sz [.ref x0]) (va_Qi (fun (r : Int32) (w : XS) => Post r w) (jx_B D dA K) (AX K sz)) 0 0 (AX K sz) := by
  refine jx_start hfl [.ref x0] [(0, .ref x0)] (by decide) (Nat.le_of_ble_eq_true rfl) rfl (fun X hX hY hin => ?_)
  unfold xw0_commonest at h
  refine jj_iconst hX dX0_commonest_0 ci_m1 1 rfl ?_
  refine jj_istore_n (lv2 := [(0, .ref x0), (1, .int (-1 : Int32))]) hX dX0_commonest_1 (Nat.le_of_ble_eq_true rfl) [1, 0] rfl 2 rfl ?_
  refine jj_iconst hX dX0_commonest_2 ci_0 3 rfl ?_
  refine jj_istore_n (lv2 := [(0, .ref x0), (1, .int (-1 : Int32)), (2, .int (0 : Int32))]) hX dX0_commonest_3 (Nat.le_of_ble_eq_true rfl) [1, 2, 0] rfl 4 rfl ?_
  refine jj_iconst hX dX0_commonest_4 ci_1 5 rfl ?_
  refine jj_istore_n (lv2 := [(0, .ref x0), (1, .int (-1 : Int32)), (2, .int (0 : Int32)), (3, .int (1 : Int32))]) hX dX0_commonest_5 (Nat.le_of_ble_eq_true rfl) [1, 2, 3, 0] rfl 6 rfl ?_
  obtain ⟨n9, h⟩ := h
  exact txw0_commonest_L6 hX hY n9 _ _ _ _ h
theorem hd_xw0_commonest : yX0_commonest.cls ≠ "java/lang/invoke/MethodHandle" ∧ yX0_commonest.cls ≠ "java/lang/invoke/VarHandle" ∧ (parseMethodDescriptor yX0_commonest.desc).map (fun d => d.parameters.length) = some 0 := by decide +kernel
theorem kxw0_commonest {X : JC} {A : Nat → Prop} {Q : State → Prop} {nL k n pc : Nat} {lv : List (Nat × Value)} {st : List Value} {own : String} {cc : ByteArray} {ret : Option FieldType} {F LL mc ms ix : Nat} {D : va_G} {dA aK aV : Nat → Nat} {K : XK} {u : XS} {x0 : Nat} {Post : Int32 → XS → Prop} (hX : JX X own cc nL ret F LL mc ms) (hY : JY X D dA aK aV A) (h1a : K x0 = (1, 0)) (hlk : (Cond.methodLink own ix yX0_commonest) ∈ lw_all) (hF : 1 + 1 ≤ F) (hL : 8 + (4 + 11) + 23 ≤ LL) (hk : k ≤ mc) (hk2 : n ≤ ms) (hw : (st.map fun v => v.category).sum ≤ 8) (d : decode cc pc = .ok (.invokevirtual ix, 3)) (q : Nat) (hq : pc + 3 = q) (h : xw0_commonest x0 K u  Post) (kk : ∀ (r : Int32) (u2 : XS), Post r u2 → JJ X A Q nL (XP D dA A K u2) k n q lv (.int r :: st)) : JJ X A Q nL (XP D dA A K u) k n pc lv (.ref x0 :: st) :=
  jx_callVi (na := 0) (As := []) hX hY jf0 h1a (fun sz => mxw0_commonest (jj_l X) hY.2.2.2.2 D dA aK aV x0 K u  Post h sz) hlk q1289 q1290 q120 q1291 ⟨rfl, hd_xw0_commonest⟩ rfl rfl hw hF hL hk hk2 d q hq kk
theorem knxw0_commonest {X : JC} {A : Nat → Prop} {Q : State → Prop} {nL k n pc : Nat} {lv : List (Nat × Value)} {st : List Value} {own : String} {cc : ByteArray} {ret : Option FieldType} {F LL mc ms ix : Nat} {D : va_G} {dA aK aV : Nat → Nat} {K : XK} {u : XS} {x0 : Nat} {host : String} {Post : Int32 → XS → Prop} (hX : JX X own cc nL ret F LL mc ms) (hY : JY X D dA aK aV A) (h1a : K x0 = (1, 0)) (hlk : (Cond.methodLinkNest own ix yX0_commonest host) ∈ jx_nest) (hF : 1 + 1 ≤ F) (hL : 8 + (4 + 11) + 23 ≤ LL) (hk : k ≤ mc) (hk2 : n ≤ ms) (hw : (st.map fun v => v.category).sum ≤ 8) (d : decode cc pc = .ok (.invokevirtual ix, 3)) (q : Nat) (hq : pc + 3 = q) (h : xw0_commonest x0 K u  Post) (kk : ∀ (r : Int32) (u2 : XS), Post r u2 → JJ X A Q nL (XP D dA A K u2) k n q lv (.int r :: st)) : JJ X A Q nL (XP D dA A K u) k n pc lv (.ref x0 :: st) :=
  jx_callNi (na := 0) (As := []) hX hY jf0 h1a (fun sz => mxw0_commonest (jj_l X) hY.2.2.2.2 D dA aK aV x0 K u  Post h sz) hlk q1289 q1290 q120 q1291 hd_xw0_commonest rfl rfl hw hF hL hk hk2 d q hq kk
/-- RaisedPress.square(I)I -/
def xw0_square (x0 : Nat) (x1 : Int32) (K : XK) (u : XS) (Post : Int32 → XS → Prop) : Prop :=
  K x0 = (1, 0) ∧
  xw0_table x0 K u (fun r1 u1 =>
    K r1 = (1, 5) ∧
    xw0_table x0 K u1 (fun r10 u10 =>
      K r10 = (1, 5) ∧
      Post (((xi u1 r1 5) - x1) * ((xi u10 r10 5) - x1)) u10))
set_option maxHeartbeats 4000000 in
set_option maxRecDepth 100000 in
theorem mxw0_square (l : Launch) (hfl : l.stackTraces = false) (D : va_G) (dA aK aV : Nat → Nat) (x0 : Nat) (x1 : Int32) (K : XK) (u : XS) (Post : Int32 → XS → Prop) (h : xw0_square x0 x1 K u Post) (sz : Nat) : Met l yX0_square (ws_ yX0_square cX0_square 2 (Option.some Jvm.ClassFile.FieldType.int)) (jx_rm 1 20 0 0) (jx_Pc D dA aK aV K u sz [.ref x0, .int x1]) (va_Qi (fun (r : Int32) (w : XS) => Post r w) (jx_B D dA K) (AX K sz)) 0 0 (AX K sz) := by
  refine jx_start hfl [.ref x0, .int x1] [(0, .ref x0), (1, .int x1)] (by decide) (Nat.le_of_ble_eq_true rfl) rfl (fun X hX hY hin => ?_)
  unfold xw0_square at h
  refine jj_aload_n hX dX0_square_0 0 rfl 1 rfl ?_
  obtain ⟨k1, h⟩ := h
  refine kxw0_table hX hY k1 q879 (Nat.le_of_ble_eq_true rfl) (Nat.le_of_ble_eq_true rfl) (Nat.zero_le _) (Nat.zero_le _) (Nat.le_of_ble_eq_true rfl) dX0_square_1 4 rfl h (fun r1 u1 h => ?_)
  obtain ⟨k4, h⟩ := h
  refine xgn5_5 hX hY k4 dX0_square_4 nq295 7 rfl ?_
  refine jj_iload_n hX dX0_square_7 1 rfl 8 rfl ?_
  refine jj_isub hX dX0_square_8 9 rfl ?_
  refine jj_aload_n hX dX0_square_9 0 rfl 10 rfl ?_
  refine kxw0_table hX hY k1 q879 (Nat.le_of_ble_eq_true rfl) (Nat.le_of_ble_eq_true rfl) (Nat.zero_le _) (Nat.zero_le _) (Nat.le_of_ble_eq_true rfl) dX0_square_10 13 rfl h (fun r10 u10 h => ?_)
  obtain ⟨k13, h⟩ := h
  refine xgn5_5 hX hY k13 dX0_square_13 nq295 16 rfl ?_
  refine jj_iload_n hX dX0_square_16 1 rfl 17 rfl ?_
  refine jj_isub hX dX0_square_17 18 rfl ?_
  refine jj_imul hX dX0_square_18 19 rfl ?_
  exact jj_reti (post := (fun (r : Int32) (w : XS) => Post r w)) (u := u10) hX dX0_square_19 (Nat.le_refl 0) (Nat.le_refl 0) jx_hB h
theorem hd_xw0_square : yX0_square.cls ≠ "java/lang/invoke/MethodHandle" ∧ yX0_square.cls ≠ "java/lang/invoke/VarHandle" ∧ (parseMethodDescriptor yX0_square.desc).map (fun d => d.parameters.length) = some 1 := by decide +kernel
theorem kxw0_square {X : JC} {A : Nat → Prop} {Q : State → Prop} {nL k n pc : Nat} {lv : List (Nat × Value)} {st : List Value} {own : String} {cc : ByteArray} {ret : Option FieldType} {F LL mc ms ix : Nat} {D : va_G} {dA aK aV : Nat → Nat} {K : XK} {u : XS} {x0 : Nat} {x1 : Int32} {Post : Int32 → XS → Prop} (hX : JX X own cc nL ret F LL mc ms) (hY : JY X D dA aK aV A) (h1a : K x0 = (1, 0)) (hlk : (Cond.methodLink own ix yX0_square) ∈ lw_all) (hF : 1 + 1 ≤ F) (hL : 8 + (2 + 11) + 20 ≤ LL) (hk : k ≤ mc) (hk2 : n ≤ ms) (hw : (st.map fun v => v.category).sum ≤ 8) (d : decode cc pc = .ok (.invokevirtual ix, 3)) (q : Nat) (hq : pc + 3 = q) (h : xw0_square x0 x1 K u  Post) (kk : ∀ (r : Int32) (u2 : XS), Post r u2 → JJ X A Q nL (XP D dA A K u2) k n q lv (.int r :: st)) : JJ X A Q nL (XP D dA A K u) k n pc lv (.int x1 :: .ref x0 :: st) :=
  jx_callVi (na := 1) (As := [.int x1]) hX hY jf0 h1a (fun sz => mxw0_square (jj_l X) hY.2.2.2.2 D dA aK aV x0 x1 K u  Post h sz) hlk q1298 qs43 q120 q1299 ⟨rfl, hd_xw0_square⟩ rfl rfl hw hF hL hk hk2 d q hq kk
theorem knxw0_square {X : JC} {A : Nat → Prop} {Q : State → Prop} {nL k n pc : Nat} {lv : List (Nat × Value)} {st : List Value} {own : String} {cc : ByteArray} {ret : Option FieldType} {F LL mc ms ix : Nat} {D : va_G} {dA aK aV : Nat → Nat} {K : XK} {u : XS} {x0 : Nat} {x1 : Int32} {host : String} {Post : Int32 → XS → Prop} (hX : JX X own cc nL ret F LL mc ms) (hY : JY X D dA aK aV A) (h1a : K x0 = (1, 0)) (hlk : (Cond.methodLinkNest own ix yX0_square host) ∈ jx_nest) (hF : 1 + 1 ≤ F) (hL : 8 + (2 + 11) + 20 ≤ LL) (hk : k ≤ mc) (hk2 : n ≤ ms) (hw : (st.map fun v => v.category).sum ≤ 8) (d : decode cc pc = .ok (.invokevirtual ix, 3)) (q : Nat) (hq : pc + 3 = q) (h : xw0_square x0 x1 K u  Post) (kk : ∀ (r : Int32) (u2 : XS), Post r u2 → JJ X A Q nL (XP D dA A K u2) k n q lv (.int r :: st)) : JJ X A Q nL (XP D dA A K u) k n pc lv (.int x1 :: .ref x0 :: st) :=
  jx_callNi (na := 1) (As := [.int x1]) hX hY jf0 h1a (fun sz => mxw0_square (jj_l X) hY.2.2.2.2 D dA aK aV x0 x1 K u  Post h sz) hlk q1298 qs43 q120 q1299 hd_xw0_square rfl rfl hw hF hL hk hk2 d q hq kk
def xw0_ragged_L21_S (Post : Int32 → XS → Prop) (K : XK) (x0 : Nat) (R : Int32 → Int32 → XS → Prop) (x1 : Int32) (x2 : Int32) (u : XS) : Prop :=
  K x0 = (1, 0) ∧
  ∃ b28, (xr u x0 10) = some b28 ∧
  K b28 = (1, 4) ∧
  ∃ b31, (xr u b28 2) = some b31 ∧
  K b31 = (1, 15) ∧
  xw15_lines b31 K u (fun r31 u31 =>
    (r31 ≤ (x2 + (1 : Int32)) →
      Post x1 u31) ∧
    (¬ r31 ≤ (x2 + (1 : Int32)) →
      ∃ b43, (xr u31 x0 10) = some b43 ∧
      K b43 = (1, 4) ∧
      ∃ b47, (xr u31 b43 2) = some b47 ∧
      K b47 = (1, 15) ∧
      xw15_lineMany b47 x2 K u31 (fun r47 u47 =>
        xw0_square x0 r47 K u47 (fun r50 u50 =>
          ∀ v54 : Int32, v54 = (x1 + r50) →
          ∀ v55 : Int32, v55 = x2 + (1 : Int32) →
          R v54 v55 u50))))
def xw0_ragged_L21 (Post : Int32 → XS → Prop) (K : XK) (x0 : Nat) : Nat → Int32 → Int32 → XS → Prop
  | 0 => fun _ _ _ => False
  | n + 1 => fun x1 x2 u => xw0_ragged_L21_S Post K x0 (xw0_ragged_L21 Post K x0 n) x1 x2 u
/-- RaisedPress.ragged()I -/
def xw0_ragged (x0 : Nat) (K : XK) (u : XS) (Post : Int32 → XS → Prop) : Prop :=
  K x0 = (1, 0) ∧
  xw0_whyNotSet x0 K u (fun r2 u2 =>
    ∀ u5 : XS, u5 = xsi u2 x0 7 r2 →
    ((xi u5 x0 7) ≤ 0 →
      ∃ n, xw0_ragged_L21 Post K x0 n (0 : Int32) (0 : Int32) u5) ∧
    (¬ (xi u5 x0 7) ≤ 0 →
      Post (-1 : Int32) u5))
set_option maxHeartbeats 4000000 in
set_option maxRecDepth 100000 in
theorem txw0_ragged_L21 {X : JC} {D : va_G} {dA aK aV : Nat → Nat} {sz : Nat} {K : XK} {Post : Int32 → XS → Prop} {x0 : Nat} (hX : JX X yX0_ragged.cls cX0_ragged 3 (Option.some Jvm.ClassFile.FieldType.int) 2 41 0 0) (hY : JY X D dA aK aV (AX K sz)) : ∀ (n : Nat) (x1 : Int32) (x2 : Int32) (u : XS), xw0_ragged_L21 Post K x0 n x1 x2 u → JJ X (AX K sz) (jj_Q X (va_Qi (fun (r : Int32) (w : XS) => Post r w) (jx_B D dA K) (AX K sz)) 0 0 (AX K sz)) 3 (XP D dA (AX K sz) K u) 0 0 21 [(0, .ref x0), (1, .int x1), (2, .int x2)] [] := by
  intro n
  induction n with
  | zero =>
    intro x1 x2 u h
    exact h.elim
  | succ n ih =>
    intro x1 x2 u h
    have h : xw0_ragged_L21_S Post K x0 (xw0_ragged_L21 Post K x0 n) x1 x2 u := h
    unfold xw0_ragged_L21_S at h
    refine jj_iload_n hX dX0_ragged_21 2 rfl 22 rfl ?_
    refine jj_iconst hX dX0_ragged_22 ci_1 23 rfl ?_
    refine jj_iadd hX dX0_ragged_23 24 rfl ?_
    refine jj_aload_n hX dX0_ragged_24 0 rfl 25 rfl ?_
    obtain ⟨k25, h⟩ := h
    refine xg0_10 hX hY k25 dX0_ragged_25 q421 28 rfl ?_
    obtain ⟨b28, g28, h⟩ := h
    refine jj_st (st2 := [.ref b28, .int (x2 + (1 : Int32))]) (by rw [va_rf_some g28]) ?_
    obtain ⟨k28, h⟩ := h
    refine xgn4_2 hX hY k28 dX0_ragged_28 nq319 31 rfl ?_
    obtain ⟨b31, g31, h⟩ := h
    refine jj_st (st2 := [.ref b31, .int (x2 + (1 : Int32))]) (by rw [va_rf_some g31]) ?_
    obtain ⟨k31, h⟩ := h
    refine kxw15_lines hX hY k31 q1128 (Nat.le_of_ble_eq_true rfl) (Nat.le_of_ble_eq_true rfl) (Nat.zero_le _) (Nat.zero_le _) (Nat.le_of_ble_eq_true rfl) dX0_ragged_31 34 rfl h (fun r31 u31 h => ?_)
    refine jj_icmp_ge hX dX0_ragged_34 61 37 (by decide) rfl (fun c34 => ?_) (fun c34 => ?_)
    · have h := h.1 c34
      refine jj_iload_n hX dX0_ragged_61 1 rfl 62 rfl ?_
      exact jj_reti (post := (fun (r : Int32) (w : XS) => Post r w)) (u := u31) hX dX0_ragged_62 (Nat.le_refl 0) (Nat.le_refl 0) jx_hB h
    · have h := h.2 c34
      refine jj_iload_n hX dX0_ragged_37 1 rfl 38 rfl ?_
      refine jj_aload_n hX dX0_ragged_38 0 rfl 39 rfl ?_
      refine jj_aload_n hX dX0_ragged_39 0 rfl 40 rfl ?_
      refine xg0_10 hX hY k25 dX0_ragged_40 q421 43 rfl ?_
      obtain ⟨b43, g43, h⟩ := h
      refine jj_st (st2 := [.ref b43, .ref x0, .int x1]) (by rw [va_rf_some g43]) ?_
      obtain ⟨k43, h⟩ := h
      refine xgn4_2 hX hY k43 dX0_ragged_43 nq319 46 rfl ?_
      refine jj_iload_n hX dX0_ragged_46 2 rfl 47 rfl ?_
      obtain ⟨b47, g47, h⟩ := h
      refine jj_st (st2 := [.int x2, .ref b47, .ref x0, .int x1]) (by rw [va_rf_some g47]) ?_
      obtain ⟨k47, h⟩ := h
      refine kxw15_lineMany hX hY k47 q1148 (Nat.le_of_ble_eq_true rfl) (Nat.le_of_ble_eq_true rfl) (Nat.zero_le _) (Nat.zero_le _) (Nat.le_of_ble_eq_true rfl) dX0_ragged_47 50 rfl h (fun r47 u47 h => ?_)
      refine kxw0_square hX hY k25 q1296 (Nat.le_of_ble_eq_true rfl) (Nat.le_of_ble_eq_true rfl) (Nat.zero_le _) (Nat.zero_le _) (Nat.le_of_ble_eq_true rfl) dX0_ragged_50 53 rfl h (fun r50 u50 h => ?_)
      refine jj_iadd hX dX0_ragged_53 54 rfl ?_
      refine jj_topi (fun v54 e54 => ?_)
      have h := h v54 e54
      refine jj_istore_n (lv2 := [(0, .ref x0), (1, .int v54), (2, .int x2)]) hX dX0_ragged_54 (Nat.le_of_ble_eq_true rfl) [1, 0, 2] rfl 55 rfl ?_
      obtain ⟨v55, e55⟩ : ∃ y : Int32, y = x2 + (1 : Int32) := ⟨_, rfl⟩
      have h := h v55 e55
      refine jj_iinc (v := v55) (lv2 := [(0, .ref x0), (1, .int v54), (2, .int v55)]) hX dX0_ragged_55 2 rfl (by rw [e55, ci_1]) (Nat.le_of_ble_eq_true rfl) [1, 2, 0] rfl 58 rfl ?_
      refine jj_goto hX dX0_ragged_58 21 (by decide) ?_
      exact ih _ _ _ h
set_option maxHeartbeats 4000000 in
set_option maxRecDepth 100000 in
theorem mxw0_ragged (l : Launch) (hfl : l.stackTraces = false) (D : va_G) (dA aK aV : Nat → Nat) (x0 : Nat) (K : XK) (u : XS) (Post : Int32 → XS → Prop) (h : xw0_ragged x0 K u Post) (sz : Nat) : Met l yX0_ragged (ws_ yX0_ragged cX0_ragged 3 (Option.some Jvm.ClassFile.FieldType.int)) (jx_rm 2 41 0 0) (jx_Pc D dA aK aV K u sz [.ref x0]) (va_Qi (fun (r : Int32) (w : XS) => Post r w) (jx_B D dA K) (AX K sz)) 0 0 (AX K sz) := by
  refine jx_start hfl [.ref x0] [(0, .ref x0)] (by decide) (Nat.le_of_ble_eq_true rfl) rfl (fun X hX hY hin => ?_)
  unfold xw0_ragged at h
  refine jj_aload_n hX dX0_ragged_0 0 rfl 1 rfl ?_
  refine jj_aload_n hX dX0_ragged_1 0 rfl 2 rfl ?_
  obtain ⟨k2, h⟩ := h
  refine kxw0_whyNotSet hX hY k2 q1111 (Nat.le_of_ble_eq_true rfl) (Nat.le_of_ble_eq_true rfl) (Nat.zero_le _) (Nat.zero_le _) (Nat.le_of_ble_eq_true rfl) dX0_ragged_2 5 rfl h (fun r2 u2 h => ?_)
  refine xp0_7 hX hY k2 dX0_ragged_5 q418 8 rfl (fun u5 e5 => ?_)
  have h := h u5 e5
  refine jj_aload_n hX dX0_ragged_8 0 rfl 9 rfl ?_
  refine xg0_7 hX hY k2 dX0_ragged_9 q418 12 rfl ?_
  refine jj_if_le hX dX0_ragged_12 17 15 (by decide) rfl (fun c12 => ?_) (fun c12 => ?_)
  · have h := h.1 c12
    refine jj_iconst hX dX0_ragged_17 ci_0 18 rfl ?_
    refine jj_istore_n (lv2 := [(0, .ref x0), (1, .int (0 : Int32))]) hX dX0_ragged_18 (Nat.le_of_ble_eq_true rfl) [1, 0] rfl 19 rfl ?_
    refine jj_iconst hX dX0_ragged_19 ci_0 20 rfl ?_
    refine jj_istore_n (lv2 := [(0, .ref x0), (1, .int (0 : Int32)), (2, .int (0 : Int32))]) hX dX0_ragged_20 (Nat.le_of_ble_eq_true rfl) [1, 2, 0] rfl 21 rfl ?_
    obtain ⟨n9, h⟩ := h
    exact txw0_ragged_L21 hX hY n9 _ _ _ h
  · have h := h.2 c12
    refine jj_iconst hX dX0_ragged_15 ci_m1 16 rfl ?_
    exact jj_reti (post := (fun (r : Int32) (w : XS) => Post r w)) (u := u5) hX dX0_ragged_16 (Nat.le_refl 0) (Nat.le_refl 0) jx_hB h
theorem hd_xw0_ragged : yX0_ragged.cls ≠ "java/lang/invoke/MethodHandle" ∧ yX0_ragged.cls ≠ "java/lang/invoke/VarHandle" ∧ (parseMethodDescriptor yX0_ragged.desc).map (fun d => d.parameters.length) = some 0 := by decide +kernel
theorem kxw0_ragged {X : JC} {A : Nat → Prop} {Q : State → Prop} {nL k n pc : Nat} {lv : List (Nat × Value)} {st : List Value} {own : String} {cc : ByteArray} {ret : Option FieldType} {F LL mc ms ix : Nat} {D : va_G} {dA aK aV : Nat → Nat} {K : XK} {u : XS} {x0 : Nat} {Post : Int32 → XS → Prop} (hX : JX X own cc nL ret F LL mc ms) (hY : JY X D dA aK aV A) (h1a : K x0 = (1, 0)) (hlk : (Cond.methodLink own ix yX0_ragged) ∈ lw_all) (hF : 2 + 1 ≤ F) (hL : 8 + (3 + 11) + 41 ≤ LL) (hk : k ≤ mc) (hk2 : n ≤ ms) (hw : (st.map fun v => v.category).sum ≤ 8) (d : decode cc pc = .ok (.invokevirtual ix, 3)) (q : Nat) (hq : pc + 3 = q) (h : xw0_ragged x0 K u  Post) (kk : ∀ (r : Int32) (u2 : XS), Post r u2 → JJ X A Q nL (XP D dA A K u2) k n q lv (.int r :: st)) : JJ X A Q nL (XP D dA A K u) k n pc lv (.ref x0 :: st) :=
  jx_callVi (na := 0) (As := []) hX hY jf0 h1a (fun sz => mxw0_ragged (jj_l X) hY.2.2.2.2 D dA aK aV x0 K u  Post h sz) hlk q1293 q1294 q120 q1295 ⟨rfl, hd_xw0_ragged⟩ rfl rfl hw hF hL hk hk2 d q hq kk
theorem knxw0_ragged {X : JC} {A : Nat → Prop} {Q : State → Prop} {nL k n pc : Nat} {lv : List (Nat × Value)} {st : List Value} {own : String} {cc : ByteArray} {ret : Option FieldType} {F LL mc ms ix : Nat} {D : va_G} {dA aK aV : Nat → Nat} {K : XK} {u : XS} {x0 : Nat} {host : String} {Post : Int32 → XS → Prop} (hX : JX X own cc nL ret F LL mc ms) (hY : JY X D dA aK aV A) (h1a : K x0 = (1, 0)) (hlk : (Cond.methodLinkNest own ix yX0_ragged host) ∈ jx_nest) (hF : 2 + 1 ≤ F) (hL : 8 + (3 + 11) + 41 ≤ LL) (hk : k ≤ mc) (hk2 : n ≤ ms) (hw : (st.map fun v => v.category).sum ≤ 8) (d : decode cc pc = .ok (.invokevirtual ix, 3)) (q : Nat) (hq : pc + 3 = q) (h : xw0_ragged x0 K u  Post) (kk : ∀ (r : Int32) (u2 : XS), Post r u2 → JJ X A Q nL (XP D dA A K u2) k n q lv (.int r :: st)) : JJ X A Q nL (XP D dA A K u) k n pc lv (.ref x0 :: st) :=
  jx_callNi (na := 0) (As := []) hX hY jf0 h1a (fun sz => mxw0_ragged (jj_l X) hY.2.2.2.2 D dA aK aV x0 K u  Post h sz) hlk q1293 q1294 q120 q1295 hd_xw0_ragged rfl rfl hw hF hL hk hk2 d q hq kk
def xw0_leastFrom_L10_S (Post : Int32 → XS → Prop) (K : XK) (x0 : Nat) (x1 : Nat) (R : Int32 → Int32 → Int32 → XS → Prop) (x3 : Int32) (x4 : Int32) (x5 : Int32) (u : XS) : Prop :=
  ∃ n13, K x1 = (2, n13) ∧
  ((nI n13) ≤ x5 →
    Post x3 u) ∧
  (¬ (nI n13) ≤ x5 →
    vp_in x5 n13 ∧
    ∀ v26 : Int32, v26 = (x4 + ((1 : Int32) + (xi u x1 x5.toNatClampNeg))) →
    K x0 = (1, 0) ∧
    xw0_table x0 K u (fun r31 u31 =>
      K r31 = (1, 5) ∧
      (v26 ≤ (xi u31 r31 5) →
        (¬ (x5 + (1 : Int32)) = (nI n13) →
          xw0_square x0 v26 K u31 (fun r59 u59 =>
            ∃ b70, (xr u59 x0 14) = some b70 ∧
            ∃ n70, K b70 = (2, n70) ∧
            vp_in (x5 + (1 : Int32)) n70 ∧
            jw_min x3 (r59 + (xi u59 b70 (x5 + (1 : Int32)).toNatClampNeg)) (fun r72 =>
              ∀ v76 : Int32, v76 = x5 + (1 : Int32) →
              R r72 v26 v76 u59))) ∧
        ((x5 + (1 : Int32)) = (nI n13) →
          jw_min x3 (0 : Int32) (fun r72 =>
            ∀ v76 : Int32, v76 = x5 + (1 : Int32) →
            R r72 v26 v76 u31))) ∧
      (¬ v26 ≤ (xi u31 r31 5) →
        Post x3 u31)))
def xw0_leastFrom_L10 (Post : Int32 → XS → Prop) (K : XK) (x0 : Nat) (x1 : Nat) : Nat → Int32 → Int32 → Int32 → XS → Prop
  | 0 => fun _ _ _ _ => False
  | n + 1 => fun x3 x4 x5 u => xw0_leastFrom_L10_S Post K x0 x1 (xw0_leastFrom_L10 Post K x0 x1 n) x3 x4 x5 u
/-- RaisedPress.leastFrom([II)I -/
def xw0_leastFrom (x0 : Nat) (x1 : Nat) (x2 : Int32) (K : XK) (u : XS) (Post : Int32 → XS → Prop) : Prop :=
  ∃ n, xw0_leastFrom_L10 Post K x0 x1 n (2147483647 : Int32) (-1 : Int32) x2 u
set_option maxHeartbeats 4000000 in
set_option maxRecDepth 100000 in
theorem txw0_leastFrom_L10 {X : JC} {D : va_G} {dA aK aV : Nat → Nat} {sz : Nat} {K : XK} {Post : Int32 → XS → Prop} {x0 : Nat} {x1 : Nat} (hX : JX X yX0_leastFrom.cls cX0_leastFrom 6 (Option.some Jvm.ClassFile.FieldType.int) 2 41 0 0) (hY : JY X D dA aK aV (AX K sz)) : ∀ (n : Nat) (x3 : Int32) (x4 : Int32) (x5 : Int32) (u : XS), xw0_leastFrom_L10 Post K x0 x1 n x3 x4 x5 u → JJ X (AX K sz) (jj_Q X (va_Qi (fun (r : Int32) (w : XS) => Post r w) (jx_B D dA K) (AX K sz)) 0 0 (AX K sz)) 6 (XP D dA (AX K sz) K u) 0 0 10 [(0, .ref x0), (1, .ref x1), (3, .int x3), (4, .int x4), (5, .int x5)] [] := by
  intro n
  induction n with
  | zero =>
    intro x3 x4 x5 u h
    exact h.elim
  | succ n ih =>
    intro x3 x4 x5 u h
    have h : xw0_leastFrom_L10_S Post K x0 x1 (xw0_leastFrom_L10 Post K x0 x1 n) x3 x4 x5 u := h
    unfold xw0_leastFrom_L10_S at h
    refine jj_iload hX dX0_leastFrom_10 4 rfl 12 rfl ?_
    refine jj_aload_n hX dX0_leastFrom_12 1 rfl 13 rfl ?_
    obtain ⟨n13, k13, h⟩ := h
    refine jx_alen hX hY.1 k13 dX0_leastFrom_13 14 rfl ?_
    refine jj_icmp_ge hX dX0_leastFrom_14 82 17 (by decide) rfl (fun c14 => ?_) (fun c14 => ?_)
    · have h := h.1 c14
      refine jj_iload_n hX dX0_leastFrom_82 2 rfl 83 rfl ?_
      exact jj_reti (post := (fun (r : Int32) (w : XS) => Post r w)) (u := u) hX dX0_leastFrom_83 (Nat.le_refl 0) (Nat.le_refl 0) jx_hB h
    · have h := h.2 c14
      refine jj_iload hX dX0_leastFrom_17 3 rfl 19 rfl ?_
      refine jj_iconst hX dX0_leastFrom_19 ci_1 20 rfl ?_
      refine jj_aload_n hX dX0_leastFrom_20 1 rfl 21 rfl ?_
      refine jj_iload hX dX0_leastFrom_21 4 rfl 23 rfl ?_
      obtain ⟨hi23, h⟩ := h
      refine jx_iald hX hY.1 k13 _ rfl hi23 dX0_leastFrom_23 24 rfl ?_
      refine jj_iadd hX dX0_leastFrom_24 25 rfl ?_
      refine jj_iadd hX dX0_leastFrom_25 26 rfl ?_
      refine jj_topi (fun v26 e26 => ?_)
      have h := h v26 e26
      refine jj_istore (lv2 := [(0, .ref x0), (1, .ref x1), (3, .int x3), (4, .int v26), (5, .int x5)]) hX dX0_leastFrom_26 (Nat.le_of_ble_eq_true rfl) [1, 2, 3, 0, 4] rfl 28 rfl ?_
      refine jj_iload hX dX0_leastFrom_28 3 rfl 30 rfl ?_
      refine jj_aload_n hX dX0_leastFrom_30 0 rfl 31 rfl ?_
      obtain ⟨k31, h⟩ := h
      refine kxw0_table hX hY k31 q879 (Nat.le_of_ble_eq_true rfl) (Nat.le_of_ble_eq_true rfl) (Nat.zero_le _) (Nat.zero_le _) (Nat.le_of_ble_eq_true rfl) dX0_leastFrom_31 34 rfl h (fun r31 u31 h => ?_)
      obtain ⟨k34, h⟩ := h
      refine xgn5_5 hX hY k34 dX0_leastFrom_34 nq295 37 rfl ?_
      refine jj_icmp_le hX dX0_leastFrom_37 42 40 (by decide) rfl (fun c37 => ?_) (fun c37 => ?_)
      · have h := h.1 c37
        refine jj_iload_n hX dX0_leastFrom_42 2 rfl 43 rfl ?_
        refine jj_iload hX dX0_leastFrom_43 4 rfl 45 rfl ?_
        refine jj_iconst hX dX0_leastFrom_45 ci_1 46 rfl ?_
        refine jj_iadd hX dX0_leastFrom_46 47 rfl ?_
        refine jj_aload_n hX dX0_leastFrom_47 1 rfl 48 rfl ?_
        refine jx_alen hX hY.1 k13 dX0_leastFrom_48 49 rfl ?_
        refine jj_icmp_ne hX dX0_leastFrom_49 56 52 (by decide) rfl (fun c49 => ?_) (fun c49 => ?_)
        · have h := h.1 c49
          refine jj_aload_n hX dX0_leastFrom_56 0 rfl 57 rfl ?_
          refine jj_iload hX dX0_leastFrom_57 3 rfl 59 rfl ?_
          refine kxw0_square hX hY k31 q1296 (Nat.le_of_ble_eq_true rfl) (Nat.le_of_ble_eq_true rfl) (Nat.zero_le _) (Nat.zero_le _) (Nat.le_of_ble_eq_true rfl) dX0_leastFrom_59 62 rfl h (fun r59 u59 h => ?_)
          refine jj_aload_n hX dX0_leastFrom_62 0 rfl 63 rfl ?_
          refine xg0_14 hX hY k31 dX0_leastFrom_63 q425 66 rfl ?_
          refine jj_iload hX dX0_leastFrom_66 4 rfl 68 rfl ?_
          refine jj_iconst hX dX0_leastFrom_68 ci_1 69 rfl ?_
          refine jj_iadd hX dX0_leastFrom_69 70 rfl ?_
          obtain ⟨b70, g70, h⟩ := h
          refine jj_st (st2 := [.int (x5 + (1 : Int32)), .ref b70, .int r59, .int x3]) (by rw [va_rf_some g70]) ?_
          obtain ⟨n70, k70, h⟩ := h
          obtain ⟨hi70, h⟩ := h
          refine jx_iald hX hY.1 k70 _ rfl hi70 dX0_leastFrom_70 71 rfl ?_
          refine jj_iadd hX dX0_leastFrom_71 72 rfl ?_
          refine kjw_min hX XP.keeps q1239 (Nat.le_of_ble_eq_true rfl) (Nat.le_of_ble_eq_true rfl) (Nat.zero_le _) (Nat.zero_le _) (Nat.le_of_ble_eq_true rfl) dX0_leastFrom_72 75 rfl h (fun r72 h => ?_)
          refine jj_istore_n (lv2 := [(0, .ref x0), (1, .ref x1), (3, .int r72), (4, .int v26), (5, .int x5)]) hX dX0_leastFrom_75 (Nat.le_of_ble_eq_true rfl) [1, 2, 0, 3, 4] rfl 76 rfl ?_
          obtain ⟨v76, e76⟩ : ∃ y : Int32, y = x5 + (1 : Int32) := ⟨_, rfl⟩
          have h := h v76 e76
          refine jj_iinc (v := v76) (lv2 := [(0, .ref x0), (1, .ref x1), (3, .int r72), (4, .int v26), (5, .int v76)]) hX dX0_leastFrom_76 4 rfl (by rw [e76, ci_1]) (Nat.le_of_ble_eq_true rfl) [1, 2, 3, 4, 0] rfl 79 rfl ?_
          refine jj_goto hX dX0_leastFrom_79 10 (by decide) ?_
          exact ih _ _ _ _ h
        · have h := h.2 c49
          refine jj_iconst hX dX0_leastFrom_52 ci_0 53 rfl ?_
          refine jj_goto hX dX0_leastFrom_53 72 (by decide) ?_
          refine kjw_min hX XP.keeps q1239 (Nat.le_of_ble_eq_true rfl) (Nat.le_of_ble_eq_true rfl) (Nat.zero_le _) (Nat.zero_le _) (Nat.le_of_ble_eq_true rfl) dX0_leastFrom_72 75 rfl h (fun r72 h => ?_)
          refine jj_istore_n (lv2 := [(0, .ref x0), (1, .ref x1), (3, .int r72), (4, .int v26), (5, .int x5)]) hX dX0_leastFrom_75 (Nat.le_of_ble_eq_true rfl) [1, 2, 0, 3, 4] rfl 76 rfl ?_
          obtain ⟨v76, e76⟩ : ∃ y : Int32, y = x5 + (1 : Int32) := ⟨_, rfl⟩
          have h := h v76 e76
          refine jj_iinc (v := v76) (lv2 := [(0, .ref x0), (1, .ref x1), (3, .int r72), (4, .int v26), (5, .int v76)]) hX dX0_leastFrom_76 4 rfl (by rw [e76, ci_1]) (Nat.le_of_ble_eq_true rfl) [1, 2, 3, 4, 0] rfl 79 rfl ?_
          refine jj_goto hX dX0_leastFrom_79 10 (by decide) ?_
          exact ih _ _ _ _ h
      · have h := h.2 c37
        refine jj_iload_n hX dX0_leastFrom_40 2 rfl 41 rfl ?_
        exact jj_reti (post := (fun (r : Int32) (w : XS) => Post r w)) (u := u31) hX dX0_leastFrom_41 (Nat.le_refl 0) (Nat.le_refl 0) jx_hB h
set_option maxHeartbeats 4000000 in
set_option maxRecDepth 100000 in
theorem mxw0_leastFrom (l : Launch) (hfl : l.stackTraces = false) (D : va_G) (dA aK aV : Nat → Nat) (x0 : Nat) (x1 : Nat) (x2 : Int32) (K : XK) (u : XS) (Post : Int32 → XS → Prop) (h : xw0_leastFrom x0 x1 x2 K u Post) (sz : Nat) : Met l yX0_leastFrom (ws_ yX0_leastFrom cX0_leastFrom 6 (Option.some Jvm.ClassFile.FieldType.int)) (jx_rm 2 41 0 0) (jx_Pc D dA aK aV K u sz [.ref x0, .ref x1, .int x2]) (va_Qi (fun (r : Int32) (w : XS) => Post r w) (jx_B D dA K) (AX K sz)) 0 0 (AX K sz) := by
  refine jx_start hfl [.ref x0, .ref x1, .int x2] [(0, .ref x0), (1, .ref x1), (2, .int x2)] (by decide) (Nat.le_of_ble_eq_true rfl) rfl (fun X hX hY hin => ?_)
  unfold xw0_leastFrom at h
  refine jj_ldcw (v := 2147483647) hX dX0_leastFrom_0 q1308 3 rfl ?_
  refine jj_istore_n (lv2 := [(0, .ref x0), (1, .ref x1), (2, .int x2), (3, .int (2147483647 : Int32))]) hX dX0_leastFrom_3 (Nat.le_of_ble_eq_true rfl) [1, 2, 3, 0] rfl 4 rfl ?_
  refine jj_iconst hX dX0_leastFrom_4 ci_m1 5 rfl ?_
  refine jj_istore (lv2 := [(0, .ref x0), (1, .ref x1), (2, .int x2), (3, .int (2147483647 : Int32)), (4, .int (-1 : Int32))]) hX dX0_leastFrom_5 (Nat.le_of_ble_eq_true rfl) [1, 2, 3, 4, 0] rfl 7 rfl ?_
  refine jj_iload_n hX dX0_leastFrom_7 2 rfl 8 rfl ?_
  refine jj_istore (lv2 := [(0, .ref x0), (1, .ref x1), (3, .int (2147483647 : Int32)), (4, .int (-1 : Int32)), (5, .int x2)]) hX dX0_leastFrom_8 (Nat.le_of_ble_eq_true rfl) [1, 2, 4, 5, 0] rfl 10 rfl ?_
  obtain ⟨n9, h⟩ := h
  exact txw0_leastFrom_L10 hX hY n9 _ _ _ _ h
theorem hd_xw0_leastFrom : yX0_leastFrom.cls ≠ "java/lang/invoke/MethodHandle" ∧ yX0_leastFrom.cls ≠ "java/lang/invoke/VarHandle" ∧ (parseMethodDescriptor yX0_leastFrom.desc).map (fun d => d.parameters.length) = some 2 := by decide +kernel
theorem kxw0_leastFrom {X : JC} {A : Nat → Prop} {Q : State → Prop} {nL k n pc : Nat} {lv : List (Nat × Value)} {st : List Value} {own : String} {cc : ByteArray} {ret : Option FieldType} {F LL mc ms ix : Nat} {D : va_G} {dA aK aV : Nat → Nat} {K : XK} {u : XS} {x0 : Nat} {x1 : Nat} {x2 : Int32} {Post : Int32 → XS → Prop} (hX : JX X own cc nL ret F LL mc ms) (hY : JY X D dA aK aV A) (h1a : K x0 = (1, 0)) (hlk : (Cond.methodLink own ix yX0_leastFrom) ∈ lw_all) (hF : 2 + 1 ≤ F) (hL : 8 + (6 + 11) + 41 ≤ LL) (hk : k ≤ mc) (hk2 : n ≤ ms) (hw : (st.map fun v => v.category).sum ≤ 8) (d : decode cc pc = .ok (.invokevirtual ix, 3)) (q : Nat) (hq : pc + 3 = q) (h : xw0_leastFrom x0 x1 x2 K u  Post) (kk : ∀ (r : Int32) (u2 : XS), Post r u2 → JJ X A Q nL (XP D dA A K u2) k n q lv (.int r :: st)) : JJ X A Q nL (XP D dA A K u) k n pc lv (.int x2 :: .ref x1 :: .ref x0 :: st) :=
  jx_callVi (na := 2) (As := [.ref x1, .int x2]) hX hY jf0 h1a (fun sz => mxw0_leastFrom (jj_l X) hY.2.2.2.2 D dA aK aV x0 x1 x2 K u  Post h sz) hlk q1306 qs44 q120 q1307 ⟨rfl, hd_xw0_leastFrom⟩ rfl rfl hw hF hL hk hk2 d q hq kk
theorem knxw0_leastFrom {X : JC} {A : Nat → Prop} {Q : State → Prop} {nL k n pc : Nat} {lv : List (Nat × Value)} {st : List Value} {own : String} {cc : ByteArray} {ret : Option FieldType} {F LL mc ms ix : Nat} {D : va_G} {dA aK aV : Nat → Nat} {K : XK} {u : XS} {x0 : Nat} {x1 : Nat} {x2 : Int32} {host : String} {Post : Int32 → XS → Prop} (hX : JX X own cc nL ret F LL mc ms) (hY : JY X D dA aK aV A) (h1a : K x0 = (1, 0)) (hlk : (Cond.methodLinkNest own ix yX0_leastFrom host) ∈ jx_nest) (hF : 2 + 1 ≤ F) (hL : 8 + (6 + 11) + 41 ≤ LL) (hk : k ≤ mc) (hk2 : n ≤ ms) (hw : (st.map fun v => v.category).sum ≤ 8) (d : decode cc pc = .ok (.invokevirtual ix, 3)) (q : Nat) (hq : pc + 3 = q) (h : xw0_leastFrom x0 x1 x2 K u  Post) (kk : ∀ (r : Int32) (u2 : XS), Post r u2 → JJ X A Q nL (XP D dA A K u2) k n q lv (.int r :: st)) : JJ X A Q nL (XP D dA A K u) k n pc lv (.int x2 :: .ref x1 :: .ref x0 :: st) :=
  jx_callNi (na := 2) (As := [.ref x1, .int x2]) hX hY jf0 h1a (fun sz => mxw0_leastFrom (jj_l X) hY.2.2.2.2 D dA aK aV x0 x1 x2 K u  Post h sz) hlk q1306 qs44 q120 q1307 hd_xw0_leastFrom rfl rfl hw hF hL hk hk2 d q hq kk
def xw0_leastRagged_L77_S (Post : Int32 → XS → Prop) (K : XK) (x0 : Nat) (x1 : Nat) (R : Int32 → XS → Prop) (x2 : Int32) (u : XS) : Prop :=
  (x2 < 0 →
    K x0 = (1, 0) ∧
    ∃ b104, (xr u x0 14) = some b104 ∧
    ∃ n104, K b104 = (2, n104) ∧
    vp_in (0 : Int32) n104 ∧
    Post (xi u b104 0) u) ∧
  (¬ x2 < 0 →
    K x0 = (1, 0) ∧
    xw0_leastFrom x0 x1 x2 K u (fun r89 u89 =>
      ∃ b92, (xr u x0 14) = some b92 ∧
      ∃ n92, K b92 = (2, n92) ∧
      vp_in x2 n92 ∧
      ∀ u92 : XS, u92 = xsi u89 b92 x2.toNatClampNeg r89 →
      ∀ v93 : Int32, v93 = x2 + (-1 : Int32) →
      R v93 u92))
def xw0_leastRagged_L77 (Post : Int32 → XS → Prop) (K : XK) (x0 : Nat) (x1 : Nat) : Nat → Int32 → XS → Prop
  | 0 => fun _ _ => False
  | n + 1 => fun x2 u => xw0_leastRagged_L77_S Post K x0 x1 (xw0_leastRagged_L77 Post K x0 x1 n) x2 u
def xw0_leastRagged_L33_S (Post : Int32 → XS → Prop) (K : XK) (x0 : Nat) (x1 : Nat) (R : Int32 → XS → Prop) (x2 : Int32) (u : XS) : Prop :=
  (x2 < 0 →
    K x0 = (1, 0) ∧
    ∃ n69, K x1 = (2, n69) ∧
    ∃ b71, (xr u x0 14) = some b71 ∧
    ∃ n71, K b71 = (2, n71) ∧
    vp_in (nI n69) n71 ∧
    ∀ u71 : XS, u71 = xsi u b71 (nI n69).toNatClampNeg (0 : Int32) →
    ∀ v76 : Int32, v76 = ((nI n69) - (1 : Int32)) →
    ∃ n, xw0_leastRagged_L77 Post K x0 x1 n v76 u71) ∧
  (¬ x2 < 0 →
    ∃ n39, K x1 = (2, n39) ∧
    vp_in x2 n39 ∧
    K x0 = (1, 0) ∧
    xw0_table x0 K u (fun r41 u41 =>
      K r41 = (1, 5) ∧
      ((xi u x1 x2.toNatClampNeg) ≤ (xi u41 r41 5) →
        ∀ v58 : Int32, v58 = x2 + (-1 : Int32) →
        R v58 u41) ∧
      (¬ (xi u x1 x2.toNatClampNeg) ≤ (xi u41 r41 5) →
        ∀ u53 : XS, u53 = xsi u41 x0 7 (7 : Int32) →
        Post (-1 : Int32) u53)))
def xw0_leastRagged_L33 (Post : Int32 → XS → Prop) (K : XK) (x0 : Nat) (x1 : Nat) : Nat → Int32 → XS → Prop
  | 0 => fun _ _ => False
  | n + 1 => fun x2 u => xw0_leastRagged_L33_S Post K x0 x1 (xw0_leastRagged_L33 Post K x0 x1 n) x2 u
/-- RaisedPress.leastRagged()I -/
def xw0_leastRagged (x0 : Nat) (K : XK) (u : XS) (Post : Int32 → XS → Prop) : Prop :=
  K x0 = (1, 0) ∧
  xw0_whyNotSet x0 K u (fun r2 u2 =>
    ∀ u5 : XS, u5 = xsi u2 x0 7 r2 →
    ((xi u5 x0 7) ≤ 0 →
      ∃ b21, (xr u5 x0 10) = some b21 ∧
      K b21 = (1, 4) ∧
      ∃ b24, (xr u5 b21 2) = some b24 ∧
      K b24 = (1, 15) ∧
      ∃ b27, (xr u5 b24 3) = some b27 ∧
      ∃ n29, K b27 = (2, n29) ∧
      ∀ v32 : Int32, v32 = ((nI n29) - (1 : Int32)) →
      ∃ n, xw0_leastRagged_L33 Post K x0 b27 n v32 u5) ∧
    (¬ (xi u5 x0 7) ≤ 0 →
      Post (-1 : Int32) u5))
set_option maxHeartbeats 4000000 in
set_option maxRecDepth 100000 in
theorem txw0_leastRagged_L77 {X : JC} {D : va_G} {dA aK aV : Nat → Nat} {sz : Nat} {K : XK} {Post : Int32 → XS → Prop} {x0 : Nat} {x1 : Nat} (hX : JX X yX0_leastRagged.cls cX0_leastRagged 3 (Option.some Jvm.ClassFile.FieldType.int) 3 66 0 0) (hY : JY X D dA aK aV (AX K sz)) : ∀ (n : Nat) (x2 : Int32) (u : XS), xw0_leastRagged_L77 Post K x0 x1 n x2 u → JJ X (AX K sz) (jj_Q X (va_Qi (fun (r : Int32) (w : XS) => Post r w) (jx_B D dA K) (AX K sz)) 0 0 (AX K sz)) 3 (XP D dA (AX K sz) K u) 0 0 77 [(0, .ref x0), (1, .ref x1), (2, .int x2)] [] := by
  intro n
  induction n with
  | zero =>
    intro x2 u h
    exact h.elim
  | succ n ih =>
    intro x2 u h
    have h : xw0_leastRagged_L77_S Post K x0 x1 (xw0_leastRagged_L77 Post K x0 x1 n) x2 u := h
    unfold xw0_leastRagged_L77_S at h
    refine jj_iload_n hX dX0_leastRagged_77 2 rfl 78 rfl ?_
    refine jj_if_lt hX dX0_leastRagged_78 99 81 (by decide) rfl (fun c78 => ?_) (fun c78 => ?_)
    · have h := h.1 c78
      refine jj_aload_n hX dX0_leastRagged_99 0 rfl 100 rfl ?_
      obtain ⟨k100, h⟩ := h
      refine xg0_14 hX hY k100 dX0_leastRagged_100 q425 103 rfl ?_
      refine jj_iconst hX dX0_leastRagged_103 ci_0 104 rfl ?_
      obtain ⟨b104, g104, h⟩ := h
      refine jj_st (st2 := [.int (0 : Int32), .ref b104]) (by rw [va_rf_some g104]) ?_
      obtain ⟨n104, k104, h⟩ := h
      obtain ⟨hi104, h⟩ := h
      refine jx_iald hX hY.1 k104 0 kc_0 hi104 dX0_leastRagged_104 105 rfl ?_
      exact jj_reti (post := (fun (r : Int32) (w : XS) => Post r w)) (u := u) hX dX0_leastRagged_105 (Nat.le_refl 0) (Nat.le_refl 0) jx_hB h
    · have h := h.2 c78
      refine jj_aload_n hX dX0_leastRagged_81 0 rfl 82 rfl ?_
      obtain ⟨k82, h⟩ := h
      refine xg0_14 hX hY k82 dX0_leastRagged_82 q425 85 rfl ?_
      refine jj_iload_n hX dX0_leastRagged_85 2 rfl 86 rfl ?_
      refine jj_aload_n hX dX0_leastRagged_86 0 rfl 87 rfl ?_
      refine jj_aload_n hX dX0_leastRagged_87 1 rfl 88 rfl ?_
      refine jj_iload_n hX dX0_leastRagged_88 2 rfl 89 rfl ?_
      refine kxw0_leastFrom hX hY k82 q1304 (Nat.le_of_ble_eq_true rfl) (Nat.le_of_ble_eq_true rfl) (Nat.zero_le _) (Nat.zero_le _) (by simp [jx_rfc, jx_c1, jx_c2, jx_c3, jx_c4]) dX0_leastRagged_89 92 rfl h (fun r89 u89 h => ?_)
      obtain ⟨b92, g92, h⟩ := h
      refine jj_st (st2 := [.int r89, .int x2, .ref b92]) (by rw [va_rf_some g92]) ?_
      obtain ⟨n92, k92, h⟩ := h
      obtain ⟨hi92, h⟩ := h
      refine jx_iast hX hY.1 k92 _ rfl hi92 dX0_leastRagged_92 93 rfl (fun u92 e92 => ?_)
      have h := h u92 e92
      obtain ⟨v93, e93⟩ : ∃ y : Int32, y = x2 + (-1 : Int32) := ⟨_, rfl⟩
      have h := h v93 e93
      refine jj_iinc (v := v93) (lv2 := [(0, .ref x0), (1, .ref x1), (2, .int v93)]) hX dX0_leastRagged_93 2 rfl (by rw [e93, ci_m1]) (Nat.le_of_ble_eq_true rfl) [1, 2, 0] rfl 96 rfl ?_
      refine jj_goto hX dX0_leastRagged_96 77 (by decide) ?_
      exact ih _ _ h
set_option maxHeartbeats 4000000 in
set_option maxRecDepth 100000 in
theorem txw0_leastRagged_L33 {X : JC} {D : va_G} {dA aK aV : Nat → Nat} {sz : Nat} {K : XK} {Post : Int32 → XS → Prop} {x0 : Nat} {x1 : Nat} (hX : JX X yX0_leastRagged.cls cX0_leastRagged 3 (Option.some Jvm.ClassFile.FieldType.int) 3 66 0 0) (hY : JY X D dA aK aV (AX K sz)) : ∀ (n : Nat) (x2 : Int32) (u : XS), xw0_leastRagged_L33 Post K x0 x1 n x2 u → JJ X (AX K sz) (jj_Q X (va_Qi (fun (r : Int32) (w : XS) => Post r w) (jx_B D dA K) (AX K sz)) 0 0 (AX K sz)) 3 (XP D dA (AX K sz) K u) 0 0 33 [(0, .ref x0), (1, .ref x1), (2, .int x2)] [] := by
  intro n
  induction n with
  | zero =>
    intro x2 u h
    exact h.elim
  | succ n ih =>
    intro x2 u h
    have h : xw0_leastRagged_L33_S Post K x0 x1 (xw0_leastRagged_L33 Post K x0 x1 n) x2 u := h
    unfold xw0_leastRagged_L33_S at h
    refine jj_iload_n hX dX0_leastRagged_33 2 rfl 34 rfl ?_
    refine jj_if_lt hX dX0_leastRagged_34 64 37 (by decide) rfl (fun c34 => ?_) (fun c34 => ?_)
    · have h := h.1 c34
      refine jj_aload_n hX dX0_leastRagged_64 0 rfl 65 rfl ?_
      obtain ⟨k65, h⟩ := h
      refine xg0_14 hX hY k65 dX0_leastRagged_65 q425 68 rfl ?_
      refine jj_aload_n hX dX0_leastRagged_68 1 rfl 69 rfl ?_
      obtain ⟨n69, k69, h⟩ := h
      refine jx_alen hX hY.1 k69 dX0_leastRagged_69 70 rfl ?_
      refine jj_iconst hX dX0_leastRagged_70 ci_0 71 rfl ?_
      obtain ⟨b71, g71, h⟩ := h
      refine jj_st (st2 := [.int (0 : Int32), .int (nI n69), .ref b71]) (by rw [va_rf_some g71]) ?_
      obtain ⟨n71, k71, h⟩ := h
      obtain ⟨hi71, h⟩ := h
      refine jx_iast hX hY.1 k71 _ rfl hi71 dX0_leastRagged_71 72 rfl (fun u71 e71 => ?_)
      have h := h u71 e71
      refine jj_aload_n hX dX0_leastRagged_72 1 rfl 73 rfl ?_
      refine jx_alen hX hY.1 k69 dX0_leastRagged_73 74 rfl ?_
      refine jj_iconst hX dX0_leastRagged_74 ci_1 75 rfl ?_
      refine jj_isub hX dX0_leastRagged_75 76 rfl ?_
      refine jj_topi (fun v76 e76 => ?_)
      have h := h v76 e76
      refine jj_istore_n (lv2 := [(0, .ref x0), (1, .ref x1), (2, .int v76)]) hX dX0_leastRagged_76 (Nat.le_of_ble_eq_true rfl) [1, 2, 0] rfl 77 rfl ?_
      obtain ⟨n9, h⟩ := h
      exact txw0_leastRagged_L77 hX hY n9 _ _ h
    · have h := h.2 c34
      refine jj_aload_n hX dX0_leastRagged_37 1 rfl 38 rfl ?_
      refine jj_iload_n hX dX0_leastRagged_38 2 rfl 39 rfl ?_
      obtain ⟨n39, k39, h⟩ := h
      obtain ⟨hi39, h⟩ := h
      refine jx_iald hX hY.1 k39 _ rfl hi39 dX0_leastRagged_39 40 rfl ?_
      refine jj_aload_n hX dX0_leastRagged_40 0 rfl 41 rfl ?_
      obtain ⟨k41, h⟩ := h
      refine kxw0_table hX hY k41 q879 (Nat.le_of_ble_eq_true rfl) (Nat.le_of_ble_eq_true rfl) (Nat.zero_le _) (Nat.zero_le _) (Nat.le_of_ble_eq_true rfl) dX0_leastRagged_41 44 rfl h (fun r41 u41 h => ?_)
      obtain ⟨k44, h⟩ := h
      refine xgn5_5 hX hY k44 dX0_leastRagged_44 nq295 47 rfl ?_
      refine jj_icmp_le hX dX0_leastRagged_47 58 50 (by decide) rfl (fun c47 => ?_) (fun c47 => ?_)
      · have h := h.1 c47
        obtain ⟨v58, e58⟩ : ∃ y : Int32, y = x2 + (-1 : Int32) := ⟨_, rfl⟩
        have h := h v58 e58
        refine jj_iinc (v := v58) (lv2 := [(0, .ref x0), (1, .ref x1), (2, .int v58)]) hX dX0_leastRagged_58 2 rfl (by rw [e58, ci_m1]) (Nat.le_of_ble_eq_true rfl) [1, 2, 0] rfl 61 rfl ?_
        refine jj_goto hX dX0_leastRagged_61 33 (by decide) ?_
        exact ih _ _ h
      · have h := h.2 c47
        refine jj_aload_n hX dX0_leastRagged_50 0 rfl 51 rfl ?_
        refine jj_bipush hX dX0_leastRagged_51 cb_7 53 rfl ?_
        refine xp0_7 hX hY k41 dX0_leastRagged_53 q418 56 rfl (fun u53 e53 => ?_)
        have h := h u53 e53
        refine jj_iconst hX dX0_leastRagged_56 ci_m1 57 rfl ?_
        exact jj_reti (post := (fun (r : Int32) (w : XS) => Post r w)) (u := u53) hX dX0_leastRagged_57 (Nat.le_refl 0) (Nat.le_refl 0) jx_hB h
set_option maxHeartbeats 4000000 in
set_option maxRecDepth 100000 in
theorem mxw0_leastRagged (l : Launch) (hfl : l.stackTraces = false) (D : va_G) (dA aK aV : Nat → Nat) (x0 : Nat) (K : XK) (u : XS) (Post : Int32 → XS → Prop) (h : xw0_leastRagged x0 K u Post) (sz : Nat) : Met l yX0_leastRagged (ws_ yX0_leastRagged cX0_leastRagged 3 (Option.some Jvm.ClassFile.FieldType.int)) (jx_rm 3 66 0 0) (jx_Pc D dA aK aV K u sz [.ref x0]) (va_Qi (fun (r : Int32) (w : XS) => Post r w) (jx_B D dA K) (AX K sz)) 0 0 (AX K sz) := by
  refine jx_start hfl [.ref x0] [(0, .ref x0)] (by decide) (Nat.le_of_ble_eq_true rfl) rfl (fun X hX hY hin => ?_)
  unfold xw0_leastRagged at h
  refine jj_aload_n hX dX0_leastRagged_0 0 rfl 1 rfl ?_
  refine jj_aload_n hX dX0_leastRagged_1 0 rfl 2 rfl ?_
  obtain ⟨k2, h⟩ := h
  refine kxw0_whyNotSet hX hY k2 q1111 (Nat.le_of_ble_eq_true rfl) (Nat.le_of_ble_eq_true rfl) (Nat.zero_le _) (Nat.zero_le _) (Nat.le_of_ble_eq_true rfl) dX0_leastRagged_2 5 rfl h (fun r2 u2 h => ?_)
  refine xp0_7 hX hY k2 dX0_leastRagged_5 q418 8 rfl (fun u5 e5 => ?_)
  have h := h u5 e5
  refine jj_aload_n hX dX0_leastRagged_8 0 rfl 9 rfl ?_
  refine xg0_7 hX hY k2 dX0_leastRagged_9 q418 12 rfl ?_
  refine jj_if_le hX dX0_leastRagged_12 17 15 (by decide) rfl (fun c12 => ?_) (fun c12 => ?_)
  · have h := h.1 c12
    refine jj_aload_n hX dX0_leastRagged_17 0 rfl 18 rfl ?_
    refine xg0_10 hX hY k2 dX0_leastRagged_18 q421 21 rfl ?_
    obtain ⟨b21, g21, h⟩ := h
    refine jj_st (st2 := [.ref b21]) (by rw [va_rf_some g21]) ?_
    obtain ⟨k21, h⟩ := h
    refine xgn4_2 hX hY k21 dX0_leastRagged_21 nq319 24 rfl ?_
    obtain ⟨b24, g24, h⟩ := h
    refine jj_st (st2 := [.ref b24]) (by rw [va_rf_some g24]) ?_
    obtain ⟨k24, h⟩ := h
    refine xgn15_3 hX hY k24 dX0_leastRagged_24 nq1009 27 rfl ?_
    obtain ⟨b27, g27, h⟩ := h
    refine jj_st (st2 := [.ref b27]) (by rw [va_rf_some g27]) ?_
    refine jj_astore_n (lv2 := [(0, .ref x0), (1, .ref b27)]) hX dX0_leastRagged_27 (Nat.le_of_ble_eq_true rfl) [1, 0] rfl 28 rfl ?_
    refine jj_aload_n hX dX0_leastRagged_28 1 rfl 29 rfl ?_
    obtain ⟨n29, k29, h⟩ := h
    refine jx_alen hX hY.1 k29 dX0_leastRagged_29 30 rfl ?_
    refine jj_iconst hX dX0_leastRagged_30 ci_1 31 rfl ?_
    refine jj_isub hX dX0_leastRagged_31 32 rfl ?_
    refine jj_topi (fun v32 e32 => ?_)
    have h := h v32 e32
    refine jj_istore_n (lv2 := [(0, .ref x0), (1, .ref b27), (2, .int v32)]) hX dX0_leastRagged_32 (Nat.le_of_ble_eq_true rfl) [1, 2, 0] rfl 33 rfl ?_
    obtain ⟨n9, h⟩ := h
    exact txw0_leastRagged_L33 hX hY n9 _ _ h
  · have h := h.2 c12
    refine jj_iconst hX dX0_leastRagged_15 ci_m1 16 rfl ?_
    exact jj_reti (post := (fun (r : Int32) (w : XS) => Post r w)) (u := u5) hX dX0_leastRagged_16 (Nat.le_refl 0) (Nat.le_refl 0) jx_hB h
theorem hd_xw0_leastRagged : yX0_leastRagged.cls ≠ "java/lang/invoke/MethodHandle" ∧ yX0_leastRagged.cls ≠ "java/lang/invoke/VarHandle" ∧ (parseMethodDescriptor yX0_leastRagged.desc).map (fun d => d.parameters.length) = some 0 := by decide +kernel
theorem kxw0_leastRagged {X : JC} {A : Nat → Prop} {Q : State → Prop} {nL k n pc : Nat} {lv : List (Nat × Value)} {st : List Value} {own : String} {cc : ByteArray} {ret : Option FieldType} {F LL mc ms ix : Nat} {D : va_G} {dA aK aV : Nat → Nat} {K : XK} {u : XS} {x0 : Nat} {Post : Int32 → XS → Prop} (hX : JX X own cc nL ret F LL mc ms) (hY : JY X D dA aK aV A) (h1a : K x0 = (1, 0)) (hlk : (Cond.methodLink own ix yX0_leastRagged) ∈ lw_all) (hF : 3 + 1 ≤ F) (hL : 8 + (3 + 11) + 66 ≤ LL) (hk : k ≤ mc) (hk2 : n ≤ ms) (hw : (st.map fun v => v.category).sum ≤ 8) (d : decode cc pc = .ok (.invokevirtual ix, 3)) (q : Nat) (hq : pc + 3 = q) (h : xw0_leastRagged x0 K u  Post) (kk : ∀ (r : Int32) (u2 : XS), Post r u2 → JJ X A Q nL (XP D dA A K u2) k n q lv (.int r :: st)) : JJ X A Q nL (XP D dA A K u) k n pc lv (.ref x0 :: st) :=
  jx_callVi (na := 0) (As := []) hX hY jf0 h1a (fun sz => mxw0_leastRagged (jj_l X) hY.2.2.2.2 D dA aK aV x0 K u  Post h sz) hlk q1301 q1302 q120 q1303 ⟨rfl, hd_xw0_leastRagged⟩ rfl rfl hw hF hL hk hk2 d q hq kk
theorem knxw0_leastRagged {X : JC} {A : Nat → Prop} {Q : State → Prop} {nL k n pc : Nat} {lv : List (Nat × Value)} {st : List Value} {own : String} {cc : ByteArray} {ret : Option FieldType} {F LL mc ms ix : Nat} {D : va_G} {dA aK aV : Nat → Nat} {K : XK} {u : XS} {x0 : Nat} {host : String} {Post : Int32 → XS → Prop} (hX : JX X own cc nL ret F LL mc ms) (hY : JY X D dA aK aV A) (h1a : K x0 = (1, 0)) (hlk : (Cond.methodLinkNest own ix yX0_leastRagged host) ∈ jx_nest) (hF : 3 + 1 ≤ F) (hL : 8 + (3 + 11) + 66 ≤ LL) (hk : k ≤ mc) (hk2 : n ≤ ms) (hw : (st.map fun v => v.category).sum ≤ 8) (d : decode cc pc = .ok (.invokevirtual ix, 3)) (q : Nat) (hq : pc + 3 = q) (h : xw0_leastRagged x0 K u  Post) (kk : ∀ (r : Int32) (u2 : XS), Post r u2 → JJ X A Q nL (XP D dA A K u2) k n q lv (.int r :: st)) : JJ X A Q nL (XP D dA A K u) k n pc lv (.ref x0 :: st) :=
  jx_callNi (na := 0) (As := []) hX hY jf0 h1a (fun sz => mxw0_leastRagged (jj_l X) hY.2.2.2.2 D dA aK aV x0 K u  Post h sz) hlk q1301 q1302 q120 q1303 hd_xw0_leastRagged rfl rfl hw hF hL hk hk2 d q hq kk
/-- RaisedPress.sizeOf(Ljava/lang/Object;)I -/
def xw0_sizeOf (x0 : Nat) (K : XK) (u : XS) (Post : Int32 → XS → Prop) : Prop :=
  xTray K x0 ∧ ∀ v1 : Int32, v1 = jx_is K x0 1 →
  (v1 = 0 →
    xTray K x0 ∧ ((K x0).1 ≠ 3) ∧ ∀ v16 : Int32, v16 = jx_is K x0 2 →
    (v16 = 0 →
      xTray K x0 ∧ ((K x0).1 ≠ 3 ∧ (K x0).1 ≠ 4) ∧ ∀ v31 : Int32, v31 = jx_is K x0 0 →
      (v31 = 0 →
        ∃ n48, K x0 = (5, n48) ∧
        Post (nI n48) u) ∧
      (¬ v31 = 0 →
        ∃ n38, K x0 = (2, n38) ∧
        Post (nI n38) u)) ∧
    (¬ v16 = 0 →
      ∃ n23, K x0 = (4, n23) ∧
      Post (nI n23) u)) ∧
  (¬ v1 = 0 →
    ∃ n8, K x0 = (3, n8) ∧
    Post (nI n8) u)
set_option maxHeartbeats 4000000 in
set_option maxRecDepth 100000 in
theorem mxw0_sizeOf (l : Launch) (hfl : l.stackTraces = false) (D : va_G) (dA aK aV : Nat → Nat) (x0 : Nat) (K : XK) (u : XS) (Post : Int32 → XS → Prop) (h : xw0_sizeOf x0 K u Post) (sz : Nat) : Met l yX0_sizeOf (ws_ yX0_sizeOf cX0_sizeOf 2 (Option.some Jvm.ClassFile.FieldType.int)) (jx_rm 0 0 0 0) (jx_Pc D dA aK aV K u sz [.ref x0]) (va_Qi (fun (r : Int32) (w : XS) => Post r w) (jx_B D dA K) (AX K sz)) 0 0 (AX K sz) := by
  refine jx_start hfl [.ref x0] [(0, .ref x0)] (by decide) (Nat.le_of_ble_eq_true rfl) rfl (fun X hX hY hin => ?_)
  unfold xw0_sizeOf at h
  refine jj_aload_n hX dX0_sizeOf_0 0 rfl 1 rfl ?_
  obtain ⟨ht1, h⟩ := h
  refine jx_inst (t := 1) hX hY ht1 (by decide) (fun q => by cases q) (fun q => by cases q) (jx_nm1 hY) rfl q586 dX0_sizeOf_1 4 rfl (fun v1 e1 => ?_)
  have h := h v1 e1
  refine jj_if_eq hX dX0_sizeOf_4 15 7 (by decide) rfl (fun c4 => ?_) (fun c4 => ?_)
  · have h := h.1 c4
    refine jj_aload_n hX dX0_sizeOf_15 0 rfl 16 rfl ?_
    obtain ⟨ht16, hn16, h⟩ := h
    refine jx_inst (t := 2) hX hY ht16 (by decide) (fun q => by cases q) (fun _ => hn16) (jx_nm2 hY) rfl q587 dX0_sizeOf_16 19 rfl (fun v16 e16 => ?_)
    have h := h v16 e16
    refine jj_if_eq hX dX0_sizeOf_19 30 22 (by decide) rfl (fun c19 => ?_) (fun c19 => ?_)
    · have h := h.1 c19
      refine jj_aload_n hX dX0_sizeOf_30 0 rfl 31 rfl ?_
      obtain ⟨ht31, hn31, h⟩ := h
      refine jx_inst (t := 0) hX hY ht31 (by decide) (fun _ => hn31) (fun q => by cases q) (jx_nm0 hY) rfl q588 dX0_sizeOf_31 34 rfl (fun v31 e31 => ?_)
      have h := h v31 e31
      refine jj_if_eq hX dX0_sizeOf_34 47 37 (by decide) rfl (fun c34 => ?_) (fun c34 => ?_)
      · have h := h.1 c34
        refine jj_aload_n hX dX0_sizeOf_47 0 rfl 48 rfl ?_
        obtain ⟨n48, k48, h⟩ := h
        refine jx_acast (t := 3) hX hY k48 (jx_nm3 hY) q589 dX0_sizeOf_48 51 rfl ?_
        refine jx_alen hX hY.1 k48 dX0_sizeOf_51 52 rfl ?_
        exact jj_reti (post := (fun (r : Int32) (w : XS) => Post r w)) (u := u) hX dX0_sizeOf_52 (Nat.le_refl 0) (Nat.le_refl 0) jx_hB h
      · have h := h.2 c34
        refine jj_aload_n hX dX0_sizeOf_37 0 rfl 38 rfl ?_
        obtain ⟨n38, k38, h⟩ := h
        refine jx_acast (t := 0) hX hY k38 (jx_nm0 hY) q588 dX0_sizeOf_38 41 rfl ?_
        refine jj_astore_n (lv2 := [(1, .ref x0)]) hX dX0_sizeOf_41 (Nat.le_of_ble_eq_true rfl) [0] rfl 42 rfl ?_
        refine jj_aload_n hX dX0_sizeOf_42 0 rfl 43 rfl ?_
        refine jx_alen hX hY.1 k38 dX0_sizeOf_43 44 rfl ?_
        refine jj_goto hX dX0_sizeOf_44 52 (by decide) ?_
        exact jj_reti (post := (fun (r : Int32) (w : XS) => Post r w)) (u := u) hX dX0_sizeOf_52 (Nat.le_refl 0) (Nat.le_refl 0) jx_hB h
    · have h := h.2 c19
      refine jj_aload_n hX dX0_sizeOf_22 0 rfl 23 rfl ?_
      obtain ⟨n23, k23, h⟩ := h
      refine jx_acast (t := 2) hX hY k23 (jx_nm2 hY) q587 dX0_sizeOf_23 26 rfl ?_
      refine jj_astore_n (lv2 := [(1, .ref x0)]) hX dX0_sizeOf_26 (Nat.le_of_ble_eq_true rfl) [0] rfl 27 rfl ?_
      refine jj_aload_n hX dX0_sizeOf_27 0 rfl 28 rfl ?_
      refine jx_alen hX hY.1 k23 dX0_sizeOf_28 29 rfl ?_
      exact jj_reti (post := (fun (r : Int32) (w : XS) => Post r w)) (u := u) hX dX0_sizeOf_29 (Nat.le_refl 0) (Nat.le_refl 0) jx_hB h
  · have h := h.2 c4
    refine jj_aload_n hX dX0_sizeOf_7 0 rfl 8 rfl ?_
    obtain ⟨n8, k8, h⟩ := h
    refine jx_acast (t := 1) hX hY k8 (jx_nm1 hY) q586 dX0_sizeOf_8 11 rfl ?_
    refine jj_astore_n (lv2 := [(1, .ref x0)]) hX dX0_sizeOf_11 (Nat.le_of_ble_eq_true rfl) [0] rfl 12 rfl ?_
    refine jj_aload_n hX dX0_sizeOf_12 0 rfl 13 rfl ?_
    refine jx_alen hX hY.1 k8 dX0_sizeOf_13 14 rfl ?_
    exact jj_reti (post := (fun (r : Int32) (w : XS) => Post r w)) (u := u) hX dX0_sizeOf_14 (Nat.le_refl 0) (Nat.le_refl 0) jx_hB h
theorem hd_xw0_sizeOf : yX0_sizeOf.cls ≠ "java/lang/invoke/MethodHandle" ∧ yX0_sizeOf.cls ≠ "java/lang/invoke/VarHandle" ∧ (parseMethodDescriptor yX0_sizeOf.desc).map (fun d => d.parameters.length) = some 1 := by decide +kernel
theorem kxw0_sizeOf {X : JC} {A : Nat → Prop} {Q : State → Prop} {nL k n pc : Nat} {lv : List (Nat × Value)} {st : List Value} {own : String} {cc : ByteArray} {ret : Option FieldType} {F LL mc ms ix : Nat} {D : va_G} {dA aK aV : Nat → Nat} {K : XK} {u : XS} {x0 : Nat} {Post : Int32 → XS → Prop} (hX : JX X own cc nL ret F LL mc ms) (hY : JY X D dA aK aV A) (hlk : (Cond.methodLink own ix yX0_sizeOf) ∈ lw_all) (hF : 0 + 1 ≤ F) (hL : 8 + (2 + 11) + 0 ≤ LL) (hk : k ≤ mc) (hk2 : n ≤ ms) (hw : (st.map fun v => v.category).sum ≤ 8) (d : decode cc pc = .ok (.invokestatic ix, 3)) (q : Nat) (hq : pc + 3 = q) (h : xw0_sizeOf x0 K u  Post) (kk : ∀ (r : Int32) (u2 : XS), Post r u2 → JJ X A Q nL (XP D dA A K u2) k n q lv (.int r :: st)) : JJ X A Q nL (XP D dA A K u) k n pc lv (.ref x0 :: st) :=
  jx_callSi (na := 1) (As := [.ref x0]) hX hY (fun sz => mxw0_sizeOf (jj_l X) hY.2.2.2.2 D dA aK aV x0 K u  Post h sz) hlk q1320 q120 q1321 hd_xw0_sizeOf rfl rfl hw hF hL hk hk2 d q hq kk
theorem knxw0_sizeOf {X : JC} {A : Nat → Prop} {Q : State → Prop} {nL k n pc : Nat} {lv : List (Nat × Value)} {st : List Value} {own : String} {cc : ByteArray} {ret : Option FieldType} {F LL mc ms ix : Nat} {D : va_G} {dA aK aV : Nat → Nat} {K : XK} {u : XS} {x0 : Nat} {host : String} {Post : Int32 → XS → Prop} (hX : JX X own cc nL ret F LL mc ms) (hY : JY X D dA aK aV A) (hlk : (Cond.methodLinkNest own ix yX0_sizeOf host) ∈ jx_nest) (hF : 0 + 1 ≤ F) (hL : 8 + (2 + 11) + 0 ≤ LL) (hk : k ≤ mc) (hk2 : n ≤ ms) (hw : (st.map fun v => v.category).sum ≤ 8) (d : decode cc pc = .ok (.invokestatic ix, 3)) (q : Nat) (hq : pc + 3 = q) (h : xw0_sizeOf x0 K u  Post) (kk : ∀ (r : Int32) (u2 : XS), Post r u2 → JJ X A Q nL (XP D dA A K u2) k n q lv (.int r :: st)) : JJ X A Q nL (XP D dA A K u) k n pc lv (.ref x0 :: st) :=
  jx_callSNi (na := 1) (As := [.ref x0]) hX hY (fun sz => mxw0_sizeOf (jj_l X) hY.2.2.2.2 D dA aK aV x0 K u  Post h sz) hlk q1320 q120 q1321 hd_xw0_sizeOf rfl rfl hw hF hL hk hk2 d q hq kk
def xw0_reads_L63_S (Post : XK → XS → Prop) (PX : Nat → XK → XS → Prop) (mc ms : Nat) (x0 : Nat) (x2 : Int32) (x3 : Int32) (x4 : Nat) (x5 : Nat) (R : Int32 → XK → XS → Nat → Nat → Prop) (x6 : Int32) (K : XK) (u : XS) (c s : Nat) : Prop :=
  (x2 ≤ x6 →
    Post K u) ∧
  (¬ x2 ≤ x6 →
    ∃ m74 w74, (c + m74) ≤ mc ∧ (s + w74) ≤ ms ∧ xw0_number x5 x6 K u m74 w74 (fun r74 K74 u74 =>
      xs_isIn r74 x3.toInt64 (63 : Int64) (fun r82 =>
        K74 x0 = (1, 0) ∧
        ∃ m86 w86, ((c + m74) + m86) ≤ mc ∧ ((s + w74) + w86) ≤ ms ∧ xw0_want x0 r82 (5 : Int32) K74 u74 m86 w86 (fun K86 u86 =>
          ∃ m97 w97, (((c + m74) + m86) + m97) ≤ mc ∧ (((s + w74) + w86) + w97) ≤ ms ∧ xw0_number x5 x6 K86 u86 m97 w97 (fun r97 K97 u97 =>
            ∃ n101, K97 x4 = (2, n101) ∧
            vp_in x6 n101 ∧
            ∀ u101 : XS, u101 = xsi u97 x4 x6.toNatClampNeg r97.toInt32 →
            ∀ v102 : Int32, v102 = x6 + (1 : Int32) →
            R v102 K97 u101 (((c + m74) + m86) + m97) (((s + w74) + w86) + w97)) (fun q97 K97 u97 =>
            False)) (fun q86 K86 u86 =>
          PX q86 K86 u86))) (fun q74 K74 u74 =>
      False))
def xw0_reads_L63 (Post : XK → XS → Prop) (PX : Nat → XK → XS → Prop) (mc ms : Nat) (x0 : Nat) (x2 : Int32) (x3 : Int32) (x4 : Nat) (x5 : Nat) : Nat → Int32 → XK → XS → Nat → Nat → Prop
  | 0 => fun _ _ _ _ _ => False
  | n + 1 => fun x6 K u c s => xw0_reads_L63_S Post PX mc ms x0 x2 x3 x4 x5 (xw0_reads_L63 Post PX mc ms x0 x2 x3 x4 x5 n) x6 K u c s
def xw0_reads_B30 (Post : XK → XS → Prop) (PX : Nat → XK → XS → Prop) (mc ms : Nat) (x0 : Nat) (x1 : Int32) (x2 : Int32) (x3 : Int32) (x4 : Nat) (s0 : Int32) (s1 : Nat) (K : XK) (u : XS) (c s : Nat) : Prop :=
  K s1 = (1, 0) ∧
  ∃ m31 w31, (c + m31) ≤ mc ∧ (s + w31) ≤ ms ∧ xw0_want s1 s0 (1 : Int32) K u m31 w31 (fun K31 u31 =>
    K31 x0 = (1, 0) ∧
    ∃ m36 w36, ((c + m31) + m36) ≤ mc ∧ ((s + w31) + w36) ≤ ms ∧ xw0_on x0 x1 K31 u31 m36 w36 (fun r36 K36 u36 =>
      xw0_sizeOf r36 K36 u36 (fun r44 u44 =>
        (r44 < x2 →
          ∃ m57 w57, (((c + m31) + m36) + m57) ≤ mc ∧ (((s + w31) + w36) + w57) ≤ ms ∧ xw0_want x0 (0 : Int32) (3 : Int32) K36 u44 m57 w57 (fun K57 u57 =>
            ∃ n, xw0_reads_L63 Post PX mc ms x0 x2 x3 x4 r36 n (0 : Int32) K57 u57 (((c + m31) + m36) + m57) (((s + w31) + w36) + w57)) (fun q57 K57 u57 =>
            PX q57 K57 u57)) ∧
        (¬ r44 < x2 →
          ∃ m57 w57, (((c + m31) + m36) + m57) ≤ mc ∧ (((s + w31) + w36) + w57) ≤ ms ∧ xw0_want x0 (1 : Int32) (3 : Int32) K36 u44 m57 w57 (fun K57 u57 =>
            ∃ n, xw0_reads_L63 Post PX mc ms x0 x2 x3 x4 r36 n (0 : Int32) K57 u57 (((c + m31) + m36) + m57) (((s + w31) + w36) + w57)) (fun q57 K57 u57 =>
            PX q57 K57 u57)))) (fun q36 K36 u36 =>
      PX q36 K36 u36)) (fun q31 K31 u31 =>
    PX q31 K31 u31)
/-- RaisedPress.reads(III[I)V -/
def xw0_reads (x0 : Nat) (x1 : Int32) (x2 : Int32) (x3 : Int32) (x4 : Nat) (K : XK) (u : XS) (mc ms : Nat) (Post : XK → XS → Prop) (PX : Nat → XK → XS → Prop) : Prop :=
  xs_isIn x1.toInt64 (0 : Int64) (3 : Int64) (fun r7 =>
    (r7 = 0 →
      xw0_reads_B30 Post PX mc ms x0 x1 x2 x3 x4 (0 : Int32) x0 K u 0 0) ∧
    (¬ r7 = 0 →
      xs_isIn x2.toInt64 (1 : Int64) (20 : Int64) (fun r19 =>
        (r19 = 0 →
          xw0_reads_B30 Post PX mc ms x0 x1 x2 x3 x4 (0 : Int32) x0 K u 0 0) ∧
        (¬ r19 = 0 →
          xw0_reads_B30 Post PX mc ms x0 x1 x2 x3 x4 (1 : Int32) x0 K u 0 0))))
set_option maxHeartbeats 4000000 in
set_option maxRecDepth 100000 in
theorem txw0_reads_L63 {X : JC} {D : va_G} {dA aK aV : Nat → Nat} {sz : Nat} {K0 : XK} {mc ms : Nat} {Post : XK → XS → Prop} {PX : Nat → XK → XS → Prop} {x0 : Nat} {x2 : Int32} {x3 : Int32} {x4 : Nat} {x5 : Nat} (hX : JX X yX0_reads.cls cX0_reads 7 (Option.none : Option Jvm.ClassFile.FieldType) 9 10270 mc ms) (hY : JY X D dA aK aV (AX K0 sz)) (hE : JE X []) : ∀ (n : Nat) (x6 : Int32) (K : XK) (u : XS) (c s : Nat) (hl : XLe K0 K) (hc : c ≤ mc) (hs : s ≤ ms), xw0_reads_L63 Post PX mc ms x0 x2 x3 x4 x5 n x6 K u c s → JJ X (AX K0 sz) (jx_QX X (va_Qv (fun w : XK × XS => Post w.1 w.2) (jx_BA D dA K0 sz) (AX K0 sz)) (jx_XC 3 PX D dA K0 sz (AX K0 sz)) mc ms (AX K0 sz)) 7 (XP D dA (AX K0 sz) K u) c s 63 [(0, .ref x0), (2, .int x2), (3, .int x3), (4, .ref x4), (5, .ref x5), (6, .int x6)] [] := by
  intro n
  induction n with
  | zero =>
    intro x6 K u c s hl hc hs h
    exact h.elim
  | succ n ih =>
    intro x6 K u c s hl hc hs h
    have h : xw0_reads_L63_S Post PX mc ms x0 x2 x3 x4 x5 (xw0_reads_L63 Post PX mc ms x0 x2 x3 x4 x5 n) x6 K u c s := h
    unfold xw0_reads_L63_S at h
    refine jj_iload hX dX0_reads_63 5 rfl 65 rfl ?_
    refine jj_iload_n hX dX0_reads_65 1 rfl 66 rfl ?_
    refine jj_icmp_ge hX dX0_reads_66 108 69 (by decide) rfl (fun c66 => ?_) (fun c66 => ?_)
    · have h := h.1 c66
      exact jt_ret (jj_retv (post := (fun w : XK × XS => Post w.1 w.2)) (u := (K, u)) hX dX0_reads_108 hc hs (jx_hBA hl) h)
    · have h := h.2 c66
      refine jj_aload_n hX dX0_reads_69 0 rfl 70 rfl ?_
      refine jj_aload hX dX0_reads_70 4 rfl 72 rfl ?_
      refine jj_iload hX dX0_reads_72 5 rfl 74 rfl ?_
      obtain ⟨m74, w74, hc74, hs74, h⟩ := h
      refine kxw0_number hX hY q594 (Nat.le_of_ble_eq_true rfl) (Nat.le_of_ble_eq_true rfl) hc74 hs74 (Nat.le_of_ble_eq_true rfl) dX0_reads_74 77 rfl h (fun q74 K74 u74 hle74 h => jt_cs (k2 := (c + m74)) (n2 := (s + w74)) (by simp) (by simp) ?_) (fun r74 K74 u74 hle74 h => jj_cs (k2 := (c + m74)) (n2 := (s + w74)) (by simp) (by simp) ?_)
      · have hl74 := hl.tr hle74
        exact h.elim
      · have hl74 := hl.tr hle74
        refine jj_iload_n hX dX0_reads_77 2 rfl 78 rfl ?_
        refine jj_i2l hX dX0_reads_78 79 rfl ?_
        refine jj_ldc2 (v := 63) hX dX0_reads_79 q1283 82 rfl ?_
        refine kxs_isIn hX XP.keeps q1074 (Nat.le_of_ble_eq_true rfl) (Nat.le_of_ble_eq_true rfl) hc74 hs74 (Nat.le_of_ble_eq_true rfl) dX0_reads_82 85 rfl h (fun r82 hb82 h => ?_)
        refine jj_iconst hX dX0_reads_85 ci_5 86 rfl ?_
        obtain ⟨k86, h⟩ := h
        obtain ⟨m86, w86, hc86, hs86, h⟩ := h
        refine kxw0_want hX hY k86 q539 (Nat.le_of_ble_eq_true rfl) (Nat.le_of_ble_eq_true rfl) hc86 hs86 (Nat.le_of_ble_eq_true rfl) dX0_reads_86 89 rfl h (fun q86 K86 u86 hle86 h => jt_cs (k2 := ((c + m74) + m86)) (n2 := ((s + w74) + w86)) (by simp) (by simp) ?_) (fun K86 u86 hle86 h => jj_cs (k2 := ((c + m74) + m86)) (n2 := ((s + w74) + w86)) (by simp) (by simp) ?_)
        · have k86_1 := hle86.at k86 (by simp)
          have hl86 := hl74.tr hle86
          exact jt_out (e := 3) hX hE hc86 hs86 hl86 h
        · have k86_1 := hle86.at k86 (by simp)
          have hl86 := hl74.tr hle86
          refine jj_aload hX dX0_reads_89 3 rfl 91 rfl ?_
          refine jj_iload hX dX0_reads_91 5 rfl 93 rfl ?_
          refine jj_aload hX dX0_reads_93 4 rfl 95 rfl ?_
          refine jj_iload hX dX0_reads_95 5 rfl 97 rfl ?_
          obtain ⟨m97, w97, hc97, hs97, h⟩ := h
          refine kxw0_number hX hY q594 (Nat.le_of_ble_eq_true rfl) (Nat.le_of_ble_eq_true rfl) hc97 hs97 (Nat.le_of_ble_eq_true rfl) dX0_reads_97 100 rfl h (fun q97 K97 u97 hle97 h => jt_cs (k2 := (((c + m74) + m86) + m97)) (n2 := (((s + w74) + w86) + w97)) (by simp) (by simp) ?_) (fun r97 K97 u97 hle97 h => jj_cs (k2 := (((c + m74) + m86) + m97)) (n2 := (((s + w74) + w86) + w97)) (by simp) (by simp) ?_)
          · have k97 := hle97.at k86_1 (by simp)
            have hl97 := hl86.tr hle97
            exact h.elim
          · have k97 := hle97.at k86_1 (by simp)
            have hl97 := hl86.tr hle97
            refine jj_l2i hX dX0_reads_100 101 rfl ?_
            obtain ⟨n101, k101, h⟩ := h
            obtain ⟨hi101, h⟩ := h
            refine jx_iast hX hY.1 k101 _ rfl hi101 dX0_reads_101 102 rfl (fun u101 e101 => ?_)
            have h := h u101 e101
            obtain ⟨v102, e102⟩ : ∃ y : Int32, y = x6 + (1 : Int32) := ⟨_, rfl⟩
            have h := h v102 e102
            refine jj_iinc (v := v102) (lv2 := [(0, .ref x0), (2, .int x2), (3, .int x3), (4, .ref x4), (5, .ref x5), (6, .int v102)]) hX dX0_reads_102 5 rfl (by rw [e102, ci_1]) (Nat.le_of_ble_eq_true rfl) [1, 2, 3, 4, 5, 0] rfl 105 rfl ?_
            refine jj_goto hX dX0_reads_105 63 (by decide) ?_
            exact ih _ _ _ _ _ hl97 hc97 hs97 h
set_option maxHeartbeats 4000000 in
set_option maxRecDepth 100000 in
theorem txw0_reads_B30 {X : JC} {D : va_G} {dA aK aV : Nat → Nat} {sz : Nat} {K0 : XK} {mc ms : Nat} {Post : XK → XS → Prop} {PX : Nat → XK → XS → Prop} {x0 : Nat} {x1 : Int32} {x2 : Int32} {x3 : Int32} {x4 : Nat} {s0 : Int32} {s1 : Nat} {K : XK} {u : XS} {c s : Nat} (hX : JX X yX0_reads.cls cX0_reads 7 (Option.none : Option Jvm.ClassFile.FieldType) 9 10270 mc ms) (hY : JY X D dA aK aV (AX K0 sz)) (hE : JE X []) (hl : XLe K0 K) (hc : c ≤ mc) (hs : s ≤ ms) (h : xw0_reads_B30 Post PX mc ms x0 x1 x2 x3 x4 s0 s1 K u c s) : JJ X (AX K0 sz) (jx_QX X (va_Qv (fun w : XK × XS => Post w.1 w.2) (jx_BA D dA K0 sz) (AX K0 sz)) (jx_XC 3 PX D dA K0 sz (AX K0 sz)) mc ms (AX K0 sz)) 7 (XP D dA (AX K0 sz) K u) c s 30 [(0, .ref x0), (1, .int x1), (2, .int x2), (3, .int x3), (4, .ref x4)] [.int s0, .ref s1] := by
  unfold xw0_reads_B30 at h
  refine jj_iconst hX dX0_reads_30 ci_1 31 rfl ?_
  obtain ⟨k31, h⟩ := h
  obtain ⟨m31, w31, hc31, hs31, h⟩ := h
  refine kxw0_want hX hY k31 q539 (Nat.le_of_ble_eq_true rfl) (Nat.le_of_ble_eq_true rfl) hc31 hs31 (Nat.le_of_ble_eq_true rfl) dX0_reads_31 34 rfl h (fun q31 K31 u31 hle31 h => jt_cs (k2 := (c + m31)) (n2 := (s + w31)) (by simp) (by simp) ?_) (fun K31 u31 hle31 h => jj_cs (k2 := (c + m31)) (n2 := (s + w31)) (by simp) (by simp) ?_)
  · have k31_1 := hle31.at k31 (by simp)
    have hl31 := hl.tr hle31
    exact jt_out (e := 3) hX hE hc31 hs31 hl31 h
  · have k31_1 := hle31.at k31 (by simp)
    have hl31 := hl.tr hle31
    refine jj_aload_n hX dX0_reads_34 0 rfl 35 rfl ?_
    refine jj_iload_n hX dX0_reads_35 1 rfl 36 rfl ?_
    obtain ⟨k36, h⟩ := h
    obtain ⟨m36, w36, hc36, hs36, h⟩ := h
    refine kxw0_on hX hY k36 q579 (Nat.le_of_ble_eq_true rfl) (Nat.le_of_ble_eq_true rfl) hc36 hs36 (Nat.le_of_ble_eq_true rfl) dX0_reads_36 39 rfl h (fun q36 K36 u36 hle36 h => jt_cs (k2 := ((c + m31) + m36)) (n2 := ((s + w31) + w36)) (by simp) (by simp) ?_) (fun r36 K36 u36 hle36 h => jj_cs (k2 := ((c + m31) + m36)) (n2 := ((s + w31) + w36)) (by simp) (by simp) ?_)
    · have k36_1 := hle36.at k31_1 (by simp)
      have k36_2 := hle36.at k36 (by simp)
      have hl36 := hl31.tr hle36
      exact jt_out (e := 3) hX hE hc36 hs36 hl36 h
    · have k36_1 := hle36.at k31_1 (by simp)
      have k36_2 := hle36.at k36 (by simp)
      have hl36 := hl31.tr hle36
      refine jj_astore (lv2 := [(0, .ref x0), (2, .int x2), (3, .int x3), (4, .ref x4), (5, .ref r36)]) hX dX0_reads_39 (Nat.le_of_ble_eq_true rfl) [1, 3, 4, 5, 0] rfl 41 rfl ?_
      refine jj_aload_n hX dX0_reads_41 0 rfl 42 rfl ?_
      refine jj_aload hX dX0_reads_42 4 rfl 44 rfl ?_
      refine kxw0_sizeOf hX hY q1319 (Nat.le_of_ble_eq_true rfl) (Nat.le_of_ble_eq_true rfl) hc36 hs36 (Nat.le_of_ble_eq_true rfl) dX0_reads_44 47 rfl h (fun r44 u44 h => ?_)
      refine jj_iload_n hX dX0_reads_47 1 rfl 48 rfl ?_
      refine jj_icmp_lt hX dX0_reads_48 55 51 (by decide) rfl (fun c48 => ?_) (fun c48 => ?_)
      · have h := h.1 c48
        refine jj_iconst hX dX0_reads_55 ci_0 56 rfl ?_
        refine jj_iconst hX dX0_reads_56 ci_3 57 rfl ?_
        obtain ⟨m57, w57, hc57, hs57, h⟩ := h
        refine kxw0_want hX hY k36_2 q539 (Nat.le_of_ble_eq_true rfl) (Nat.le_of_ble_eq_true rfl) hc57 hs57 (Nat.le_of_ble_eq_true rfl) dX0_reads_57 60 rfl h (fun q57 K57 u57 hle57 h => jt_cs (k2 := (((c + m31) + m36) + m57)) (n2 := (((s + w31) + w36) + w57)) (by simp) (by simp) ?_) (fun K57 u57 hle57 h => jj_cs (k2 := (((c + m31) + m36) + m57)) (n2 := (((s + w31) + w36) + w57)) (by simp) (by simp) ?_)
        · have k57 := hle57.at k36_1 (by simp)
          have k57_1 := hle57.at k36_2 (by simp)
          have hl57 := hl36.tr hle57
          exact jt_out (e := 3) hX hE hc57 hs57 hl57 h
        · have k57 := hle57.at k36_1 (by simp)
          have k57_1 := hle57.at k36_2 (by simp)
          have hl57 := hl36.tr hle57
          refine jj_iconst hX dX0_reads_60 ci_0 61 rfl ?_
          refine jj_istore (lv2 := [(0, .ref x0), (2, .int x2), (3, .int x3), (4, .ref x4), (5, .ref r36), (6, .int (0 : Int32))]) hX dX0_reads_61 (Nat.le_of_ble_eq_true rfl) [1, 2, 3, 4, 5, 0] rfl 63 rfl ?_
          obtain ⟨n9, h⟩ := h
          exact txw0_reads_L63 hX hY hE n9 _ _ _ _ _ hl57 hc57 hs57 h
      · have h := h.2 c48
        refine jj_iconst hX dX0_reads_51 ci_1 52 rfl ?_
        refine jj_goto hX dX0_reads_52 56 (by decide) ?_
        refine jj_iconst hX dX0_reads_56 ci_3 57 rfl ?_
        obtain ⟨m57, w57, hc57, hs57, h⟩ := h
        refine kxw0_want hX hY k36_2 q539 (Nat.le_of_ble_eq_true rfl) (Nat.le_of_ble_eq_true rfl) hc57 hs57 (Nat.le_of_ble_eq_true rfl) dX0_reads_57 60 rfl h (fun q57 K57 u57 hle57 h => jt_cs (k2 := (((c + m31) + m36) + m57)) (n2 := (((s + w31) + w36) + w57)) (by simp) (by simp) ?_) (fun K57 u57 hle57 h => jj_cs (k2 := (((c + m31) + m36) + m57)) (n2 := (((s + w31) + w36) + w57)) (by simp) (by simp) ?_)
        · have k57 := hle57.at k36_1 (by simp)
          have k57_1 := hle57.at k36_2 (by simp)
          have hl57 := hl36.tr hle57
          exact jt_out (e := 3) hX hE hc57 hs57 hl57 h
        · have k57 := hle57.at k36_1 (by simp)
          have k57_1 := hle57.at k36_2 (by simp)
          have hl57 := hl36.tr hle57
          refine jj_iconst hX dX0_reads_60 ci_0 61 rfl ?_
          refine jj_istore (lv2 := [(0, .ref x0), (2, .int x2), (3, .int x3), (4, .ref x4), (5, .ref r36), (6, .int (0 : Int32))]) hX dX0_reads_61 (Nat.le_of_ble_eq_true rfl) [1, 2, 3, 4, 5, 0] rfl 63 rfl ?_
          obtain ⟨n9, h⟩ := h
          exact txw0_reads_L63 hX hY hE n9 _ _ _ _ _ hl57 hc57 hs57 h
set_option maxHeartbeats 4000000 in
set_option maxRecDepth 100000 in
theorem mxw0_reads (l : Launch) (hfl : l.stackTraces = false) (D : va_G) (dA aK aV : Nat → Nat) (x0 : Nat) (x1 : Int32) (x2 : Int32) (x3 : Int32) (x4 : Nat) (K : XK) (u : XS) (mc ms : Nat) (Post : XK → XS → Prop) (PX : Nat → XK → XS → Prop) (h : xw0_reads x0 x1 x2 x3 x4 K u mc ms Post PX) (sz : Nat) : vx_Met l yX0_reads (ws_ yX0_reads cX0_reads 7 (Option.none : Option Jvm.ClassFile.FieldType)) (jx_rm 9 10270 mc ms) (jx_Pc D dA aK aV K u sz [.ref x0, .int x1, .int x2, .int x3, .ref x4]) (va_Qv (fun w : XK × XS => Post w.1 w.2) (jx_BA D dA K sz) (AX K sz)) (jx_XC 3 PX D dA K sz (AX K sz)) mc ms (AX K sz) := by
  refine jx_startT hfl [.ref x0, .int x1, .int x2, .int x3, .ref x4] [(0, .ref x0), (1, .int x1), (2, .int x2), (3, .int x3), (4, .ref x4)] (by decide) (Nat.le_of_ble_eq_true rfl) rfl (fun X hX hY hE => ?_)
  unfold xw0_reads at h
  refine jj_aload_n hX dX0_reads_0 0 rfl 1 rfl ?_
  refine jj_iload_n hX dX0_reads_1 1 rfl 2 rfl ?_
  refine jj_i2l hX dX0_reads_2 3 rfl ?_
  refine jj_lconst (v := 0) hX dX0_reads_3 (by decide) 4 rfl ?_
  refine jj_ldc2 (v := 3) hX dX0_reads_4 q1317 7 rfl ?_
  refine kxs_isIn hX XP.keeps q1074 (Nat.le_of_ble_eq_true rfl) (Nat.le_of_ble_eq_true rfl) (Nat.zero_le _) (Nat.zero_le _) (Nat.le_of_ble_eq_true rfl) dX0_reads_7 10 rfl h (fun r7 hb7 h => ?_)
  refine jj_if_eq hX dX0_reads_10 29 13 (by decide) rfl (fun c10 => ?_) (fun c10 => ?_)
  · have h := h.1 c10
    refine jj_iconst hX dX0_reads_29 ci_0 30 rfl ?_
    exact txw0_reads_B30 hX hY hE XLe.rf (Nat.zero_le _) (Nat.zero_le _) h
  · have h := h.2 c10
    refine jj_iload_n hX dX0_reads_13 2 rfl 14 rfl ?_
    refine jj_i2l hX dX0_reads_14 15 rfl ?_
    refine jj_lconst (v := 1) hX dX0_reads_15 (by decide) 16 rfl ?_
    refine jj_ldc2 (v := 20) hX dX0_reads_16 q1318 19 rfl ?_
    refine kxs_isIn hX XP.keeps q1074 (Nat.le_of_ble_eq_true rfl) (Nat.le_of_ble_eq_true rfl) (Nat.zero_le _) (Nat.zero_le _) (Nat.le_of_ble_eq_true rfl) dX0_reads_19 22 rfl h (fun r19 hb19 h => ?_)
    refine jj_if_eq hX dX0_reads_22 29 25 (by decide) rfl (fun c22 => ?_) (fun c22 => ?_)
    · have h := h.1 c22
      refine jj_iconst hX dX0_reads_29 ci_0 30 rfl ?_
      exact txw0_reads_B30 hX hY hE XLe.rf (Nat.zero_le _) (Nat.zero_le _) h
    · have h := h.2 c22
      refine jj_iconst hX dX0_reads_25 ci_1 26 rfl ?_
      refine jj_goto hX dX0_reads_26 30 (by decide) ?_
      exact txw0_reads_B30 hX hY hE XLe.rf (Nat.zero_le _) (Nat.zero_le _) h
theorem hd_xw0_reads : yX0_reads.cls ≠ "java/lang/invoke/MethodHandle" ∧ yX0_reads.cls ≠ "java/lang/invoke/VarHandle" ∧ (parseMethodDescriptor yX0_reads.desc).map (fun d => d.parameters.length) = some 4 := by decide +kernel
theorem kxw0_reads {X : JC} {A : Nat → Prop} {Q : State → Prop} {nL k n pc : Nat} {lv : List (Nat × Value)} {st : List Value} {own : String} {cc : ByteArray} {ret : Option FieldType} {F LL mc ms ix mc2 ms2 : Nat} {D : va_G} {dA aK aV : Nat → Nat} {K : XK} {u : XS} {x0 : Nat} {x1 : Int32} {x2 : Int32} {x3 : Int32} {x4 : Nat} {Post : XK → XS → Prop} {PX : Nat → XK → XS → Prop} (hX : JX X own cc nL ret F LL mc ms) (hY : JY X D dA aK aV A) (h1a : K x0 = (1, 0)) (hlk : (Cond.methodLink own ix yX0_reads) ∈ lw_all) (hF : 9 + 1 ≤ F) (hL : 8 + (7 + 11) + 10270 ≤ LL) (hk : k + mc2 ≤ mc) (hk2 : n + ms2 ≤ ms) (hw : (st.map fun v => v.category).sum ≤ 8) (d : decode cc pc = .ok (.invokevirtual ix, 3)) (q : Nat) (hq : pc + 3 = q) (h : xw0_reads x0 x1 x2 x3 x4 K u mc2 ms2 Post PX) (kx : ∀ (q9 : Nat) (K2 : XK) (u2 : XS), XLe K K2 → PX q9 K2 u2 → JT X A Q nL (XP D dA A K2 u2) (k + mc2) (n + ms2) pc lv (jx_en 3) q9) (kk : ∀ (K2 : XK) (u2 : XS), XLe K K2 → Post K2 u2 → JJ X A Q nL (XP D dA A K2 u2) (k + mc2) (n + ms2) q lv (st)) : JJ X A Q nL (XP D dA A K u) k n pc lv (.ref x4 :: .int x3 :: .int x2 :: .int x1 :: .ref x0 :: st) :=
  jx_callTVv (na := 4) (As := [.int x1, .int x2, .int x3, .ref x4]) hX hY jf0 h1a (fun sz => mxw0_reads (jj_l X) hY.2.2.2.2 D dA aK aV x0 x1 x2 x3 x4 K u mc2 ms2 Post PX h sz) hlk q1315 qs45 q120 q1316 ⟨rfl, hd_xw0_reads⟩ rfl rfl hw hF hL hk hk2 d q hq kx kk
def xw0_noneFails_L2_S (Post : XS → Prop) (K : XK) (x0 : Nat) (R : Int32 → XS → Prop) (x1 : Int32) (u : XS) : Prop :=
  ((20 : Int32) ≤ x1 →
    Post u) ∧
  (¬ (20 : Int32) ≤ x1 →
    K x0 = (1, 0) ∧
    ∃ b14, (xr u x0 16) = some b14 ∧
    ∃ n14, K b14 = (2, n14) ∧
    vp_in x1 n14 ∧
    ∀ u14 : XS, u14 = xsi u b14 x1.toNatClampNeg (0 : Int32) →
    ∀ v15 : Int32, v15 = x1 + (1 : Int32) →
    R v15 u14)
def xw0_noneFails_L2 (Post : XS → Prop) (K : XK) (x0 : Nat) : Nat → Int32 → XS → Prop
  | 0 => fun _ _ => False
  | n + 1 => fun x1 u => xw0_noneFails_L2_S Post K x0 (xw0_noneFails_L2 Post K x0 n) x1 u
/-- RaisedPress.noneFails()V -/
def xw0_noneFails (x0 : Nat) (K : XK) (u : XS) (Post : XS → Prop) : Prop :=
  ∃ n, xw0_noneFails_L2 Post K x0 n (0 : Int32) u
set_option maxHeartbeats 4000000 in
set_option maxRecDepth 100000 in
theorem txw0_noneFails_L2 {X : JC} {D : va_G} {dA aK aV : Nat → Nat} {sz : Nat} {K : XK} {Post : XS → Prop} {x0 : Nat} (hX : JX X yX0_noneFails.cls cX0_noneFails 2 (Option.none : Option Jvm.ClassFile.FieldType) 0 0 0 0) (hY : JY X D dA aK aV (AX K sz)) : ∀ (n : Nat) (x1 : Int32) (u : XS), xw0_noneFails_L2 Post K x0 n x1 u → JJ X (AX K sz) (jj_Q X (va_Qv (fun w : XS => Post w) (jx_B D dA K) (AX K sz)) 0 0 (AX K sz)) 2 (XP D dA (AX K sz) K u) 0 0 2 [(0, .ref x0), (1, .int x1)] [] := by
  intro n
  induction n with
  | zero =>
    intro x1 u h
    exact h.elim
  | succ n ih =>
    intro x1 u h
    have h : xw0_noneFails_L2_S Post K x0 (xw0_noneFails_L2 Post K x0 n) x1 u := h
    unfold xw0_noneFails_L2_S at h
    refine jj_iload_n hX dX0_noneFails_2 1 rfl 3 rfl ?_
    refine jj_bipush hX dX0_noneFails_3 cb_20 5 rfl ?_
    refine jj_icmp_ge hX dX0_noneFails_5 21 8 (by decide) rfl (fun c5 => ?_) (fun c5 => ?_)
    · have h := h.1 c5
      exact jj_retv (post := (fun w : XS => Post w)) (u := u) hX dX0_noneFails_21 (Nat.le_refl 0) (Nat.le_refl 0) jx_hB h
    · have h := h.2 c5
      refine jj_aload_n hX dX0_noneFails_8 0 rfl 9 rfl ?_
      obtain ⟨k9, h⟩ := h
      refine xg0_16 hX hY k9 dX0_noneFails_9 q427 12 rfl ?_
      refine jj_iload_n hX dX0_noneFails_12 1 rfl 13 rfl ?_
      refine jj_iconst hX dX0_noneFails_13 ci_0 14 rfl ?_
      obtain ⟨b14, g14, h⟩ := h
      refine jj_st (st2 := [.int (0 : Int32), .int x1, .ref b14]) (by rw [va_rf_some g14]) ?_
      obtain ⟨n14, k14, h⟩ := h
      obtain ⟨hi14, h⟩ := h
      refine jx_iast hX hY.1 k14 _ rfl hi14 dX0_noneFails_14 15 rfl (fun u14 e14 => ?_)
      have h := h u14 e14
      obtain ⟨v15, e15⟩ : ∃ y : Int32, y = x1 + (1 : Int32) := ⟨_, rfl⟩
      have h := h v15 e15
      refine jj_iinc (v := v15) (lv2 := [(0, .ref x0), (1, .int v15)]) hX dX0_noneFails_15 1 rfl (by rw [e15, ci_1]) (Nat.le_of_ble_eq_true rfl) [1, 0] rfl 18 rfl ?_
      refine jj_goto hX dX0_noneFails_18 2 (by decide) ?_
      exact ih _ _ h
set_option maxHeartbeats 4000000 in
set_option maxRecDepth 100000 in
theorem mxw0_noneFails (l : Launch) (hfl : l.stackTraces = false) (D : va_G) (dA aK aV : Nat → Nat) (x0 : Nat) (K : XK) (u : XS) (Post : XS → Prop) (h : xw0_noneFails x0 K u Post) (sz : Nat) : Met l yX0_noneFails (ws_ yX0_noneFails cX0_noneFails 2 (Option.none : Option Jvm.ClassFile.FieldType)) (jx_rm 0 0 0 0) (jx_Pc D dA aK aV K u sz [.ref x0]) (va_Qv (fun w : XS => Post w) (jx_B D dA K) (AX K sz)) 0 0 (AX K sz) := by
  refine jx_start hfl [.ref x0] [(0, .ref x0)] (by decide) (Nat.le_of_ble_eq_true rfl) rfl (fun X hX hY hin => ?_)
  unfold xw0_noneFails at h
  refine jj_iconst hX dX0_noneFails_0 ci_0 1 rfl ?_
  refine jj_istore_n (lv2 := [(0, .ref x0), (1, .int (0 : Int32))]) hX dX0_noneFails_1 (Nat.le_of_ble_eq_true rfl) [1, 0] rfl 2 rfl ?_
  obtain ⟨n9, h⟩ := h
  exact txw0_noneFails_L2 hX hY n9 _ _ h
theorem hd_xw0_noneFails : yX0_noneFails.cls ≠ "java/lang/invoke/MethodHandle" ∧ yX0_noneFails.cls ≠ "java/lang/invoke/VarHandle" ∧ (parseMethodDescriptor yX0_noneFails.desc).map (fun d => d.parameters.length) = some 0 := by decide +kernel
theorem kxw0_noneFails {X : JC} {A : Nat → Prop} {Q : State → Prop} {nL k n pc : Nat} {lv : List (Nat × Value)} {st : List Value} {own : String} {cc : ByteArray} {ret : Option FieldType} {F LL mc ms ix : Nat} {D : va_G} {dA aK aV : Nat → Nat} {K : XK} {u : XS} {x0 : Nat} {Post : XS → Prop} (hX : JX X own cc nL ret F LL mc ms) (hY : JY X D dA aK aV A) (h1a : K x0 = (1, 0)) (hlk : (Cond.methodLink own ix yX0_noneFails) ∈ lw_all) (hF : 0 + 1 ≤ F) (hL : 8 + (2 + 11) + 0 ≤ LL) (hk : k ≤ mc) (hk2 : n ≤ ms) (hw : (st.map fun v => v.category).sum ≤ 8) (d : decode cc pc = .ok (.invokevirtual ix, 3)) (q : Nat) (hq : pc + 3 = q) (h : xw0_noneFails x0 K u  Post) (kk : ∀ (u2 : XS), Post u2 → JJ X A Q nL (XP D dA A K u2) k n q lv (st)) : JJ X A Q nL (XP D dA A K u) k n pc lv (.ref x0 :: st) :=
  jx_callVv (na := 0) (As := []) hX hY jf0 h1a (fun sz => mxw0_noneFails (jj_l X) hY.2.2.2.2 D dA aK aV x0 K u  Post h sz) hlk q1324 qs46 q120 q1325 ⟨rfl, hd_xw0_noneFails⟩ rfl rfl hw hF hL hk hk2 d q hq kk
theorem knxw0_noneFails {X : JC} {A : Nat → Prop} {Q : State → Prop} {nL k n pc : Nat} {lv : List (Nat × Value)} {st : List Value} {own : String} {cc : ByteArray} {ret : Option FieldType} {F LL mc ms ix : Nat} {D : va_G} {dA aK aV : Nat → Nat} {K : XK} {u : XS} {x0 : Nat} {host : String} {Post : XS → Prop} (hX : JX X own cc nL ret F LL mc ms) (hY : JY X D dA aK aV A) (h1a : K x0 = (1, 0)) (hlk : (Cond.methodLinkNest own ix yX0_noneFails host) ∈ jx_nest) (hF : 0 + 1 ≤ F) (hL : 8 + (2 + 11) + 0 ≤ LL) (hk : k ≤ mc) (hk2 : n ≤ ms) (hw : (st.map fun v => v.category).sum ≤ 8) (d : decode cc pc = .ok (.invokevirtual ix, 3)) (q : Nat) (hq : pc + 3 = q) (h : xw0_noneFails x0 K u  Post) (kk : ∀ (u2 : XS), Post u2 → JJ X A Q nL (XP D dA A K u2) k n q lv (st)) : JJ X A Q nL (XP D dA A K u) k n pc lv (.ref x0 :: st) :=
  jx_callNv (na := 0) (As := []) hX hY jf0 h1a (fun sz => mxw0_noneFails (jj_l X) hY.2.2.2.2 D dA aK aV x0 K u  Post h sz) hlk q1324 qs46 q120 q1325 hd_xw0_noneFails rfl rfl hw hF hL hk hk2 d q hq kk
def xw0_stands_L66_S (Post : Int32 → XS → Prop) (K : XK) (x0 : Nat) (x2 : Int32) (x4 : Nat) (R : Int32 → XS → Prop) (x5 : Int32) (u : XS) : Prop :=
  ∃ n70, K x4 = (2, n70) ∧
  ((nI n70) ≤ x5 →
    Post (1 : Int32) u) ∧
  (¬ (nI n70) ≤ x5 →
    vp_in x5 n70 ∧
    K x0 = (1, 0) ∧
    ∃ b87, (xr u x0 15) = some b87 ∧
    ∃ n87, K b87 = (2, n87) ∧
    vp_in (x2 + x5) n87 ∧
    ∃ b97, (xr u x0 16) = some b97 ∧
    ∃ n97, K b97 = (2, n97) ∧
    vp_in (x2 + x5) n97 ∧
    ((((xi u x4 x5.toNatClampNeg) ^^^ (xi u b87 (x2 + x5).toNatClampNeg)) &&& ((xi u b97 (x2 + x5).toNatClampNeg) ^^^ (-1 : Int32))) = 0 →
      ∀ v106 : Int32, v106 = x5 + (1 : Int32) →
      R v106 u) ∧
    (¬ (((xi u x4 x5.toNatClampNeg) ^^^ (xi u b87 (x2 + x5).toNatClampNeg)) &&& ((xi u b97 (x2 + x5).toNatClampNeg) ^^^ (-1 : Int32))) = 0 →
      Post (0 : Int32) u))
def xw0_stands_L66 (Post : Int32 → XS → Prop) (K : XK) (x0 : Nat) (x2 : Int32) (x4 : Nat) : Nat → Int32 → XS → Prop
  | 0 => fun _ _ => False
  | n + 1 => fun x5 u => xw0_stands_L66_S Post K x0 x2 x4 (xw0_stands_L66 Post K x0 x2 x4 n) x5 u
def xw0_stands_B41 (Post : Int32 → XS → Prop) (K : XK) (x0 : Nat) (x2 : Int32) (x3 : Int32) (x4 : Nat) (s0 : Int32) (s1 : Nat) (u : XS) : Prop :=
  ∃ n44, K x4 = (2, n44) ∧
  (¬ (x2 + (nI n44)) = x3 →
    xRule K s1 ∧
    xabs_may s1 s0 (0 : Int32) K u (fun r55 u55 =>
      (¬ r55 = 0 →
        ∃ n, xw0_stands_L66 Post K x0 x2 x4 n (0 : Int32) u55) ∧
      (r55 = 0 →
        Post (0 : Int32) u55))) ∧
  ((x2 + (nI n44)) = x3 →
    xRule K s1 ∧
    xabs_may s1 s0 (1 : Int32) K u (fun r55 u55 =>
      (¬ r55 = 0 →
        ∃ n, xw0_stands_L66 Post K x0 x2 x4 n (0 : Int32) u55) ∧
      (r55 = 0 →
        Post (0 : Int32) u55)))
/-- RaisedPress.stands(III)Z -/
def xw0_stands (x0 : Nat) (x1 : Int32) (x2 : Int32) (x3 : Int32) (K : XK) (u : XS) (Post : Int32 → XS → Prop) : Prop :=
  K x0 = (1, 0) ∧
  xw0_at x0 x1 K u (fun r2 u2 =>
    xRule K r2 ∧
    ∃ b8, (xr u2 r2 1) = some b8 ∧
    xw0_isThere x0 x1 K u2 (fun r12 u12 =>
      (r12 = 0 →
        Post (0 : Int32) u12) ∧
      (¬ r12 = 0 →
        ∃ n21, K b8 = (2, n21) ∧
        (x3 < (x2 + (nI n21)) →
          Post (0 : Int32) u12) ∧
        (¬ x3 < (x2 + (nI n21)) →
          xw0_at x0 x1 K u12 (fun r29 u29 =>
            (¬ x2 = 0 →
              xw0_stands_B41 Post K x0 x2 x3 b8 (0 : Int32) r29 u29) ∧
            (x2 = 0 →
              xw0_stands_B41 Post K x0 x2 x3 b8 (1 : Int32) r29 u29))))))
set_option maxHeartbeats 4000000 in
set_option maxRecDepth 100000 in
theorem txw0_stands_L66 {X : JC} {D : va_G} {dA aK aV : Nat → Nat} {sz : Nat} {K : XK} {Post : Int32 → XS → Prop} {x0 : Nat} {x2 : Int32} {x4 : Nat} (hX : JX X yX0_stands.cls cX0_stands 6 (Option.some Jvm.ClassFile.FieldType.boolean) 1 22 0 0) (hY : JY X D dA aK aV (AX K sz)) : ∀ (n : Nat) (x5 : Int32) (u : XS), xw0_stands_L66 Post K x0 x2 x4 n x5 u → JJ X (AX K sz) (jj_Q X (va_Qi (fun (r : Int32) (w : XS) => Post r w ∧ jj_z r) (jx_B D dA K) (AX K sz)) 0 0 (AX K sz)) 6 (XP D dA (AX K sz) K u) 0 0 66 [(0, .ref x0), (2, .int x2), (4, .ref x4), (5, .int x5)] [] := by
  intro n
  induction n with
  | zero =>
    intro x5 u h
    exact h.elim
  | succ n ih =>
    intro x5 u h
    have h : xw0_stands_L66_S Post K x0 x2 x4 (xw0_stands_L66 Post K x0 x2 x4 n) x5 u := h
    unfold xw0_stands_L66_S at h
    refine jj_iload hX dX0_stands_66 3 rfl 68 rfl ?_
    refine jj_aload hX dX0_stands_68 2 rfl 70 rfl ?_
    obtain ⟨n70, k70, h⟩ := h
    refine jx_alen hX hY.1 k70 dX0_stands_70 71 rfl ?_
    refine jj_icmp_ge hX dX0_stands_71 112 74 (by decide) rfl (fun c71 => ?_) (fun c71 => ?_)
    · have h := h.1 c71
      refine jj_iconst hX dX0_stands_112 ci_1 113 rfl ?_
      exact jj_retz (post := (fun (r : Int32) (w : XS) => Post r w)) (u := u) hX dX0_stands_113 (Nat.le_refl 0) (Nat.le_refl 0) jx_hB jj_z1 h
    · have h := h.2 c71
      refine jj_aload hX dX0_stands_74 2 rfl 76 rfl ?_
      refine jj_iload hX dX0_stands_76 3 rfl 78 rfl ?_
      obtain ⟨hi78, h⟩ := h
      refine jx_iald hX hY.1 k70 _ rfl hi78 dX0_stands_78 79 rfl ?_
      refine jj_aload_n hX dX0_stands_79 0 rfl 80 rfl ?_
      obtain ⟨k80, h⟩ := h
      refine xg0_15 hX hY k80 dX0_stands_80 q426 83 rfl ?_
      refine jj_iload_n hX dX0_stands_83 1 rfl 84 rfl ?_
      refine jj_iload hX dX0_stands_84 3 rfl 86 rfl ?_
      refine jj_iadd hX dX0_stands_86 87 rfl ?_
      obtain ⟨b87, g87, h⟩ := h
      refine jj_st (st2 := [.int (x2 + x5), .ref b87, .int (xi u x4 x5.toNatClampNeg)]) (by rw [va_rf_some g87]) ?_
      obtain ⟨n87, k87, h⟩ := h
      obtain ⟨hi87, h⟩ := h
      refine jx_iald hX hY.1 k87 _ rfl hi87 dX0_stands_87 88 rfl ?_
      refine jj_ixor hX dX0_stands_88 89 rfl ?_
      refine jj_aload_n hX dX0_stands_89 0 rfl 90 rfl ?_
      refine xg0_16 hX hY k80 dX0_stands_90 q427 93 rfl ?_
      refine jj_iload_n hX dX0_stands_93 1 rfl 94 rfl ?_
      refine jj_iload hX dX0_stands_94 3 rfl 96 rfl ?_
      refine jj_iadd hX dX0_stands_96 97 rfl ?_
      obtain ⟨b97, g97, h⟩ := h
      refine jj_st (st2 := [.int (x2 + x5), .ref b97, .int ((xi u x4 x5.toNatClampNeg) ^^^ (xi u b87 (x2 + x5).toNatClampNeg))]) (by rw [va_rf_some g97]) ?_
      obtain ⟨n97, k97, h⟩ := h
      obtain ⟨hi97, h⟩ := h
      refine jx_iald hX hY.1 k97 _ rfl hi97 dX0_stands_97 98 rfl ?_
      refine jj_iconst hX dX0_stands_98 ci_m1 99 rfl ?_
      refine jj_ixor hX dX0_stands_99 100 rfl ?_
      refine jj_iand hX dX0_stands_100 101 rfl ?_
      refine jj_if_eq hX dX0_stands_101 106 104 (by decide) rfl (fun c101 => ?_) (fun c101 => ?_)
      · have h := h.1 c101
        obtain ⟨v106, e106⟩ : ∃ y : Int32, y = x5 + (1 : Int32) := ⟨_, rfl⟩
        have h := h v106 e106
        refine jj_iinc (v := v106) (lv2 := [(0, .ref x0), (2, .int x2), (4, .ref x4), (5, .int v106)]) hX dX0_stands_106 3 rfl (by rw [e106, ci_1]) (Nat.le_of_ble_eq_true rfl) [1, 2, 3, 0] rfl 109 rfl ?_
        refine jj_goto hX dX0_stands_109 66 (by decide) ?_
        exact ih _ _ h
      · have h := h.2 c101
        refine jj_iconst hX dX0_stands_104 ci_0 105 rfl ?_
        exact jj_retz (post := (fun (r : Int32) (w : XS) => Post r w)) (u := u) hX dX0_stands_105 (Nat.le_refl 0) (Nat.le_refl 0) jx_hB jj_z0 h
set_option maxHeartbeats 4000000 in
set_option maxRecDepth 100000 in
theorem txw0_stands_B41 {X : JC} {D : va_G} {dA aK aV : Nat → Nat} {sz : Nat} {K : XK} {Post : Int32 → XS → Prop} {x0 : Nat} {x2 : Int32} {x3 : Int32} {x4 : Nat} {s0 : Int32} {s1 : Nat} {u : XS} (hX : JX X yX0_stands.cls cX0_stands 6 (Option.some Jvm.ClassFile.FieldType.boolean) 1 22 0 0) (hY : JY X D dA aK aV (AX K sz)) (h : xw0_stands_B41 Post K x0 x2 x3 x4 s0 s1 u) : JJ X (AX K sz) (jj_Q X (va_Qi (fun (r : Int32) (w : XS) => Post r w ∧ jj_z r) (jx_B D dA K) (AX K sz)) 0 0 (AX K sz)) 6 (XP D dA (AX K sz) K u) 0 0 41 [(0, .ref x0), (2, .int x2), (3, .int x3), (4, .ref x4)] [.int s0, .ref s1] := by
  unfold xw0_stands_B41 at h
  refine jj_iload_n hX dX0_stands_41 1 rfl 42 rfl ?_
  refine jj_aload hX dX0_stands_42 3 rfl 44 rfl ?_
  obtain ⟨n44, k44, h⟩ := h
  refine jx_alen hX hY.1 k44 dX0_stands_44 45 rfl ?_
  refine jj_iadd hX dX0_stands_45 46 rfl ?_
  refine jj_iload_n hX dX0_stands_46 2 rfl 47 rfl ?_
  refine jj_icmp_ne hX dX0_stands_47 54 50 (by decide) rfl (fun c47 => ?_) (fun c47 => ?_)
  · have h := h.1 c47
    refine jj_iconst hX dX0_stands_54 ci_0 55 rfl ?_
    obtain ⟨k55, h⟩ := h
    refine kxabs_may hX hY k55 q1334 (Nat.le_of_ble_eq_true rfl) (Nat.le_of_ble_eq_true rfl) (Nat.zero_le _) (Nat.zero_le _) (Nat.le_of_ble_eq_true rfl) dX0_stands_55 58 rfl h (fun r55 u55 hb55 h => ?_)
    refine jj_if_ne hX dX0_stands_58 63 61 (by decide) rfl (fun c58 => ?_) (fun c58 => ?_)
    · have h := h.1 c58
      refine jj_iconst hX dX0_stands_63 ci_0 64 rfl ?_
      refine jj_istore (lv2 := [(0, .ref x0), (2, .int x2), (4, .ref x4), (5, .int (0 : Int32))]) hX dX0_stands_64 (Nat.le_of_ble_eq_true rfl) [1, 2, 4, 0] rfl 66 rfl ?_
      obtain ⟨n9, h⟩ := h
      exact txw0_stands_L66 hX hY n9 _ _ h
    · have h := h.2 c58
      refine jj_iconst hX dX0_stands_61 ci_0 62 rfl ?_
      exact jj_retz (post := (fun (r : Int32) (w : XS) => Post r w)) (u := u55) hX dX0_stands_62 (Nat.le_refl 0) (Nat.le_refl 0) jx_hB jj_z0 h
  · have h := h.2 c47
    refine jj_iconst hX dX0_stands_50 ci_1 51 rfl ?_
    refine jj_goto hX dX0_stands_51 55 (by decide) ?_
    obtain ⟨k55, h⟩ := h
    refine kxabs_may hX hY k55 q1334 (Nat.le_of_ble_eq_true rfl) (Nat.le_of_ble_eq_true rfl) (Nat.zero_le _) (Nat.zero_le _) (Nat.le_of_ble_eq_true rfl) dX0_stands_55 58 rfl h (fun r55 u55 hb55 h => ?_)
    refine jj_if_ne hX dX0_stands_58 63 61 (by decide) rfl (fun c58 => ?_) (fun c58 => ?_)
    · have h := h.1 c58
      refine jj_iconst hX dX0_stands_63 ci_0 64 rfl ?_
      refine jj_istore (lv2 := [(0, .ref x0), (2, .int x2), (4, .ref x4), (5, .int (0 : Int32))]) hX dX0_stands_64 (Nat.le_of_ble_eq_true rfl) [1, 2, 4, 0] rfl 66 rfl ?_
      obtain ⟨n9, h⟩ := h
      exact txw0_stands_L66 hX hY n9 _ _ h
    · have h := h.2 c58
      refine jj_iconst hX dX0_stands_61 ci_0 62 rfl ?_
      exact jj_retz (post := (fun (r : Int32) (w : XS) => Post r w)) (u := u55) hX dX0_stands_62 (Nat.le_refl 0) (Nat.le_refl 0) jx_hB jj_z0 h
set_option maxHeartbeats 4000000 in
set_option maxRecDepth 100000 in
theorem mxw0_stands (l : Launch) (hfl : l.stackTraces = false) (D : va_G) (dA aK aV : Nat → Nat) (x0 : Nat) (x1 : Int32) (x2 : Int32) (x3 : Int32) (K : XK) (u : XS) (Post : Int32 → XS → Prop) (h : xw0_stands x0 x1 x2 x3 K u Post) (sz : Nat) : Met l yX0_stands (ws_ yX0_stands cX0_stands 6 (Option.some Jvm.ClassFile.FieldType.boolean)) (jx_rm 1 22 0 0) (jx_Pc D dA aK aV K u sz [.ref x0, .int x1, .int x2, .int x3]) (va_Qi (fun (r : Int32) (w : XS) => Post r w ∧ jj_z r) (jx_B D dA K) (AX K sz)) 0 0 (AX K sz) := by
  refine jx_start hfl [.ref x0, .int x1, .int x2, .int x3] [(0, .ref x0), (1, .int x1), (2, .int x2), (3, .int x3)] (by decide) (Nat.le_of_ble_eq_true rfl) rfl (fun X hX hY hin => ?_)
  unfold xw0_stands at h
  refine jj_aload_n hX dX0_stands_0 0 rfl 1 rfl ?_
  refine jj_iload_n hX dX0_stands_1 1 rfl 2 rfl ?_
  obtain ⟨k2, h⟩ := h
  refine kxw0_at hX hY k2 q1090 (Nat.le_of_ble_eq_true rfl) (Nat.le_of_ble_eq_true rfl) (Nat.zero_le _) (Nat.zero_le _) (Nat.le_of_ble_eq_true rfl) dX0_stands_2 5 rfl h (fun r2 u2 h => ?_)
  obtain ⟨k5, h⟩ := h
  refine xgr_1 hX hY k5 dX0_stands_5 q777 8 rfl ?_
  obtain ⟨b8, g8, h⟩ := h
  refine jj_st (st2 := [.ref b8]) (by rw [va_rf_some g8]) ?_
  refine jj_astore (lv2 := [(0, .ref x0), (1, .int x1), (2, .int x2), (3, .int x3), (4, .ref b8)]) hX dX0_stands_8 (Nat.le_of_ble_eq_true rfl) [1, 2, 3, 4, 0] rfl 10 rfl ?_
  refine jj_aload_n hX dX0_stands_10 0 rfl 11 rfl ?_
  refine jj_iload_n hX dX0_stands_11 1 rfl 12 rfl ?_
  refine kxw0_isThere hX hY k2 q1173 (Nat.le_of_ble_eq_true rfl) (Nat.le_of_ble_eq_true rfl) (Nat.zero_le _) (Nat.zero_le _) (Nat.le_of_ble_eq_true rfl) dX0_stands_12 15 rfl h (fun r12 u12 hb12 h => ?_)
  refine jj_if_eq hX dX0_stands_15 61 18 (by decide) rfl (fun c15 => ?_) (fun c15 => ?_)
  · have h := h.1 c15
    refine jj_iconst hX dX0_stands_61 ci_0 62 rfl ?_
    exact jj_retz (post := (fun (r : Int32) (w : XS) => Post r w)) (u := u12) hX dX0_stands_62 (Nat.le_refl 0) (Nat.le_refl 0) jx_hB jj_z0 h
  · have h := h.2 c15
    refine jj_iload_n hX dX0_stands_18 2 rfl 19 rfl ?_
    refine jj_aload hX dX0_stands_19 4 rfl 21 rfl ?_
    obtain ⟨n21, k21, h⟩ := h
    refine jx_alen hX hY.1 k21 dX0_stands_21 22 rfl ?_
    refine jj_iadd hX dX0_stands_22 23 rfl ?_
    refine jj_iload_n hX dX0_stands_23 3 rfl 24 rfl ?_
    refine jj_icmp_gt hX dX0_stands_24 61 27 (by decide) rfl (fun c24 => ?_) (fun c24 => ?_)
    · have h := h.1 c24
      refine jj_iconst hX dX0_stands_61 ci_0 62 rfl ?_
      exact jj_retz (post := (fun (r : Int32) (w : XS) => Post r w)) (u := u12) hX dX0_stands_62 (Nat.le_refl 0) (Nat.le_refl 0) jx_hB jj_z0 h
    · have h := h.2 c24
      refine jj_aload_n hX dX0_stands_27 0 rfl 28 rfl ?_
      refine jj_iload_n hX dX0_stands_28 1 rfl 29 rfl ?_
      refine kxw0_at hX hY k2 q1090 (Nat.le_of_ble_eq_true rfl) (Nat.le_of_ble_eq_true rfl) (Nat.zero_le _) (Nat.zero_le _) (Nat.le_of_ble_eq_true rfl) dX0_stands_29 32 rfl h (fun r29 u29 h => ?_)
      refine jj_iload_n hX dX0_stands_32 2 rfl 33 rfl ?_
      refine jj_if_ne hX dX0_stands_33 40 36 (by decide) rfl (fun c33 => ?_) (fun c33 => ?_)
      · have h := h.1 c33
        refine jj_iconst hX dX0_stands_40 ci_0 41 rfl ?_
        refine jj_sub (lv2 := [(0, .ref x0), (2, .int x2), (3, .int x3), (4, .ref b8)]) [0, 2, 3, 4] rfl ?_
        exact txw0_stands_B41 hX hY h
      · have h := h.2 c33
        refine jj_iconst hX dX0_stands_36 ci_1 37 rfl ?_
        refine jj_goto hX dX0_stands_37 41 (by decide) ?_
        refine jj_sub (lv2 := [(0, .ref x0), (2, .int x2), (3, .int x3), (4, .ref b8)]) [0, 2, 3, 4] rfl ?_
        exact txw0_stands_B41 hX hY h
theorem hd_xw0_stands : yX0_stands.cls ≠ "java/lang/invoke/MethodHandle" ∧ yX0_stands.cls ≠ "java/lang/invoke/VarHandle" ∧ (parseMethodDescriptor yX0_stands.desc).map (fun d => d.parameters.length) = some 3 := by decide +kernel
theorem kxw0_stands {X : JC} {A : Nat → Prop} {Q : State → Prop} {nL k n pc : Nat} {lv : List (Nat × Value)} {st : List Value} {own : String} {cc : ByteArray} {ret : Option FieldType} {F LL mc ms ix : Nat} {D : va_G} {dA aK aV : Nat → Nat} {K : XK} {u : XS} {x0 : Nat} {x1 : Int32} {x2 : Int32} {x3 : Int32} {Post : Int32 → XS → Prop} (hX : JX X own cc nL ret F LL mc ms) (hY : JY X D dA aK aV A) (h1a : K x0 = (1, 0)) (hlk : (Cond.methodLink own ix yX0_stands) ∈ lw_all) (hF : 1 + 1 ≤ F) (hL : 8 + (6 + 11) + 22 ≤ LL) (hk : k ≤ mc) (hk2 : n ≤ ms) (hw : (st.map fun v => v.category).sum ≤ 8) (d : decode cc pc = .ok (.invokevirtual ix, 3)) (q : Nat) (hq : pc + 3 = q) (h : xw0_stands x0 x1 x2 x3 K u  Post) (kk : ∀ (r : Int32) (u2 : XS), jj_z r → Post r u2 → JJ X A Q nL (XP D dA A K u2) k n q lv (.int r :: st)) : JJ X A Q nL (XP D dA A K u) k n pc lv (.int x3 :: .int x2 :: .int x1 :: .ref x0 :: st) :=
  jx_callVz (na := 3) (As := [.int x1, .int x2, .int x3]) hX hY jf0 h1a (fun sz => mxw0_stands (jj_l X) hY.2.2.2.2 D dA aK aV x0 x1 x2 x3 K u  Post h sz) hlk q1332 qs48 q120 q1333 ⟨rfl, hd_xw0_stands⟩ rfl rfl hw hF hL hk hk2 d q hq kk
theorem knxw0_stands {X : JC} {A : Nat → Prop} {Q : State → Prop} {nL k n pc : Nat} {lv : List (Nat × Value)} {st : List Value} {own : String} {cc : ByteArray} {ret : Option FieldType} {F LL mc ms ix : Nat} {D : va_G} {dA aK aV : Nat → Nat} {K : XK} {u : XS} {x0 : Nat} {x1 : Int32} {x2 : Int32} {x3 : Int32} {host : String} {Post : Int32 → XS → Prop} (hX : JX X own cc nL ret F LL mc ms) (hY : JY X D dA aK aV A) (h1a : K x0 = (1, 0)) (hlk : (Cond.methodLinkNest own ix yX0_stands host) ∈ jx_nest) (hF : 1 + 1 ≤ F) (hL : 8 + (6 + 11) + 22 ≤ LL) (hk : k ≤ mc) (hk2 : n ≤ ms) (hw : (st.map fun v => v.category).sum ≤ 8) (d : decode cc pc = .ok (.invokevirtual ix, 3)) (q : Nat) (hq : pc + 3 = q) (h : xw0_stands x0 x1 x2 x3 K u  Post) (kk : ∀ (r : Int32) (u2 : XS), jj_z r → Post r u2 → JJ X A Q nL (XP D dA A K u2) k n q lv (.int r :: st)) : JJ X A Q nL (XP D dA A K u) k n pc lv (.int x3 :: .int x2 :: .int x1 :: .ref x0 :: st) :=
  jx_callNz (na := 3) (As := [.int x1, .int x2, .int x3]) hX hY jf0 h1a (fun sz => mxw0_stands (jj_l X) hY.2.2.2.2 D dA aK aV x0 x1 x2 x3 K u  Post h sz) hlk q1332 qs48 q120 q1333 hd_xw0_stands rfl rfl hw hF hL hk hk2 d q hq kk
def xw0_countWays_L20_S (G11 : Int32 → XS → Prop) (Post : Int32 → XS → Prop) (K : XK) (x0 : Nat) (x1 : Int32) (x2 : Int32) (R : Int32 → Int32 → XS → Prop) (x3 : Int32) (x4 : Int32) (u : XS) : Prop :=
  K x0 = (1, 0) ∧
  xw0_table x0 K u (fun r23 u23 =>
    K r23 = (1, 5) ∧
    ((xi u23 r23 1) ≤ x4 →
      ∃ b81, (xr u23 x0 17) = some b81 ∧
      ∃ n81, K b81 = (2, n81) ∧
      vp_in x2 n81 ∧
      ∀ u81 : XS, u81 = xsi u23 b81 x2.toNatClampNeg x3 →
      ∀ v82 : Int32, v82 = x2 + (-1 : Int32) →
      G11 v82 u81) ∧
    (¬ (xi u23 r23 1) ≤ x4 →
      xw0_stands x0 x4 x2 x1 K u23 (fun r37 u37 =>
        (r37 = 0 →
          ∀ v69 : Int32, v69 = x4 + (1 : Int32) →
          R x3 v69 u37) ∧
        (¬ r37 = 0 →
          xw0_at x0 x4 K u37 (fun r55 u55 =>
            xRule K r55 ∧
            ∃ b61, (xr u55 r55 1) = some b61 ∧
            ∃ n61, K b61 = (2, n61) ∧
            ∃ b63, (xr u37 x0 17) = some b63 ∧
            ∃ n63, K b63 = (2, n63) ∧
            vp_in (x2 + (nI n61)) n63 ∧
            jw_min (999999 : Int32) (x3 + (xi u55 b63 (x2 + (nI n61)).toNatClampNeg)) (fun r65 =>
              ∀ v69 : Int32, v69 = x4 + (1 : Int32) →
              R r65 v69 u55))))))
def xw0_countWays_L20 (G11 : Int32 → XS → Prop) (Post : Int32 → XS → Prop) (K : XK) (x0 : Nat) (x1 : Int32) (x2 : Int32) : Nat → Int32 → Int32 → XS → Prop
  | 0 => fun _ _ _ => False
  | n + 1 => fun x3 x4 u => xw0_countWays_L20_S G11 Post K x0 x1 x2 (xw0_countWays_L20 G11 Post K x0 x1 x2 n) x3 x4 u
def xw0_countWays_L11_S (Post : Int32 → XS → Prop) (K : XK) (x0 : Nat) (x1 : Int32) (R : Int32 → XS → Prop) (x2 : Int32) (u : XS) : Prop :=
  (x2 < 0 →
    K x0 = (1, 0) ∧
    ∃ b93, (xr u x0 17) = some b93 ∧
    ∃ n93, K b93 = (2, n93) ∧
    vp_in (0 : Int32) n93 ∧
    Post (xi u b93 0) u) ∧
  (¬ x2 < 0 →
    ∃ n, xw0_countWays_L20 R Post K x0 x1 x2 n (0 : Int32) (0 : Int32) u)
def xw0_countWays_L11 (Post : Int32 → XS → Prop) (K : XK) (x0 : Nat) (x1 : Int32) : Nat → Int32 → XS → Prop
  | 0 => fun _ _ => False
  | n + 1 => fun x2 u => xw0_countWays_L11_S Post K x0 x1 (xw0_countWays_L11 Post K x0 x1 n) x2 u
/-- RaisedPress.countWays(I)I -/
def xw0_countWays (x0 : Nat) (x1 : Int32) (K : XK) (u : XS) (Post : Int32 → XS → Prop) : Prop :=
  K x0 = (1, 0) ∧
  ∃ b6, (xr u x0 17) = some b6 ∧
  ∃ n6, K b6 = (2, n6) ∧
  vp_in x1 n6 ∧
  ∀ u6 : XS, u6 = xsi u b6 x1.toNatClampNeg (1 : Int32) →
  ∀ v10 : Int32, v10 = (x1 - (1 : Int32)) →
  ∃ n, xw0_countWays_L11 Post K x0 x1 n v10 u6
set_option maxHeartbeats 4000000 in
set_option maxRecDepth 100000 in
theorem txw0_countWays_L20 {X : JC} {D : va_G} {dA aK aV : Nat → Nat} {sz : Nat} {K : XK} {G11 : Int32 → XS → Prop} {Post : Int32 → XS → Prop} {x0 : Nat} {x1 : Int32} {x2 : Int32} (hX : JX X yX0_countWays.cls cX0_countWays 5 (Option.some Jvm.ClassFile.FieldType.int) 2 47 0 0) (hY : JY X D dA aK aV (AX K sz)) (hG11 : ∀ (y2 : Int32) (u : XS), G11 y2 u → JJ X (AX K sz) (jj_Q X (va_Qi (fun (r : Int32) (w : XS) => Post r w) (jx_B D dA K) (AX K sz)) 0 0 (AX K sz)) 5 (XP D dA (AX K sz) K u) 0 0 11 [(0, .ref x0), (1, .int x1), (2, .int y2)] []) : ∀ (n : Nat) (x3 : Int32) (x4 : Int32) (u : XS), xw0_countWays_L20 G11 Post K x0 x1 x2 n x3 x4 u → JJ X (AX K sz) (jj_Q X (va_Qi (fun (r : Int32) (w : XS) => Post r w) (jx_B D dA K) (AX K sz)) 0 0 (AX K sz)) 5 (XP D dA (AX K sz) K u) 0 0 20 [(0, .ref x0), (1, .int x1), (2, .int x2), (3, .int x3), (4, .int x4)] [] := by
  intro n
  induction n with
  | zero =>
    intro x3 x4 u h
    exact h.elim
  | succ n ih =>
    intro x3 x4 u h
    have h : xw0_countWays_L20_S G11 Post K x0 x1 x2 (xw0_countWays_L20 G11 Post K x0 x1 x2 n) x3 x4 u := h
    unfold xw0_countWays_L20_S at h
    refine jj_iload hX dX0_countWays_20 4 rfl 22 rfl ?_
    refine jj_aload_n hX dX0_countWays_22 0 rfl 23 rfl ?_
    obtain ⟨k23, h⟩ := h
    refine kxw0_table hX hY k23 q879 (Nat.le_of_ble_eq_true rfl) (Nat.le_of_ble_eq_true rfl) (Nat.zero_le _) (Nat.zero_le _) (Nat.le_of_ble_eq_true rfl) dX0_countWays_23 26 rfl h (fun r23 u23 h => ?_)
    obtain ⟨k26, h⟩ := h
    refine xgn5_1 hX hY k26 dX0_countWays_26 nq279 29 rfl ?_
    refine jj_icmp_ge hX dX0_countWays_29 75 32 (by decide) rfl (fun c29 => ?_) (fun c29 => ?_)
    · have h := h.1 c29
      refine jj_aload_n hX dX0_countWays_75 0 rfl 76 rfl ?_
      refine xg0_17 hX hY k23 dX0_countWays_76 q428 79 rfl ?_
      refine jj_iload_n hX dX0_countWays_79 2 rfl 80 rfl ?_
      refine jj_iload_n hX dX0_countWays_80 3 rfl 81 rfl ?_
      obtain ⟨b81, g81, h⟩ := h
      refine jj_st (st2 := [.int x3, .int x2, .ref b81]) (by rw [va_rf_some g81]) ?_
      obtain ⟨n81, k81, h⟩ := h
      obtain ⟨hi81, h⟩ := h
      refine jx_iast hX hY.1 k81 _ rfl hi81 dX0_countWays_81 82 rfl (fun u81 e81 => ?_)
      have h := h u81 e81
      obtain ⟨v82, e82⟩ : ∃ y : Int32, y = x2 + (-1 : Int32) := ⟨_, rfl⟩
      have h := h v82 e82
      refine jj_iinc (v := v82) (lv2 := [(0, .ref x0), (1, .int x1), (2, .int v82), (3, .int x3), (4, .int x4)]) hX dX0_countWays_82 2 rfl (by rw [e82, ci_m1]) (Nat.le_of_ble_eq_true rfl) [1, 2, 0, 3, 4] rfl 85 rfl ?_
      refine jj_goto hX dX0_countWays_85 11 (by decide) ?_
      refine jj_sub (lv2 := [(0, .ref x0), (1, .int x1), (2, .int v82)]) [0, 1, 2] rfl ?_
      exact hG11 _ _ h
    · have h := h.2 c29
      refine jj_aload_n hX dX0_countWays_32 0 rfl 33 rfl ?_
      refine jj_iload hX dX0_countWays_33 4 rfl 35 rfl ?_
      refine jj_iload_n hX dX0_countWays_35 2 rfl 36 rfl ?_
      refine jj_iload_n hX dX0_countWays_36 1 rfl 37 rfl ?_
      refine kxw0_stands hX hY k23 q1330 (Nat.le_of_ble_eq_true rfl) (Nat.le_of_ble_eq_true rfl) (Nat.zero_le _) (Nat.zero_le _) (Nat.le_of_ble_eq_true rfl) dX0_countWays_37 40 rfl h (fun r37 u37 hb37 h => ?_)
      refine jj_if_eq hX dX0_countWays_40 69 43 (by decide) rfl (fun c40 => ?_) (fun c40 => ?_)
      · have h := h.1 c40
        obtain ⟨v69, e69⟩ : ∃ y : Int32, y = x4 + (1 : Int32) := ⟨_, rfl⟩
        have h := h v69 e69
        refine jj_iinc (v := v69) (lv2 := [(0, .ref x0), (1, .int x1), (2, .int x2), (3, .int x3), (4, .int v69)]) hX dX0_countWays_69 4 rfl (by rw [e69, ci_1]) (Nat.le_of_ble_eq_true rfl) [1, 2, 3, 4, 0] rfl 72 rfl ?_
        refine jj_goto hX dX0_countWays_72 20 (by decide) ?_
        exact ih _ _ _ h
      · have h := h.2 c40
        refine jj_ldcw (v := 999999) hX dX0_countWays_43 q1335 46 rfl ?_
        refine jj_iload_n hX dX0_countWays_46 3 rfl 47 rfl ?_
        refine jj_aload_n hX dX0_countWays_47 0 rfl 48 rfl ?_
        refine xg0_17 hX hY k23 dX0_countWays_48 q428 51 rfl ?_
        refine jj_iload_n hX dX0_countWays_51 2 rfl 52 rfl ?_
        refine jj_aload_n hX dX0_countWays_52 0 rfl 53 rfl ?_
        refine jj_iload hX dX0_countWays_53 4 rfl 55 rfl ?_
        refine kxw0_at hX hY k23 q1090 (Nat.le_of_ble_eq_true rfl) (Nat.le_of_ble_eq_true rfl) (Nat.zero_le _) (Nat.zero_le _) (by simp [jx_rfc, jx_c1, jx_c2, jx_c3, jx_c4]) dX0_countWays_55 58 rfl h (fun r55 u55 h => ?_)
        obtain ⟨k58, h⟩ := h
        refine xgr_1 hX hY k58 dX0_countWays_58 q777 61 rfl ?_
        obtain ⟨b61, g61, h⟩ := h
        refine jj_st (st2 := [.ref b61, .int x2, va_rf (xr u37 x0 17), .int x3, .int (999999 : Int32)]) (by rw [va_rf_some g61]) ?_
        obtain ⟨n61, k61, h⟩ := h
        refine jx_alen hX hY.1 k61 dX0_countWays_61 62 rfl ?_
        refine jj_iadd hX dX0_countWays_62 63 rfl ?_
        obtain ⟨b63, g63, h⟩ := h
        refine jj_st (st2 := [.int (x2 + (nI n61)), .ref b63, .int x3, .int (999999 : Int32)]) (by rw [va_rf_some g63]) ?_
        obtain ⟨n63, k63, h⟩ := h
        obtain ⟨hi63, h⟩ := h
        refine jx_iald hX hY.1 k63 _ rfl hi63 dX0_countWays_63 64 rfl ?_
        refine jj_iadd hX dX0_countWays_64 65 rfl ?_
        refine kjw_min hX XP.keeps q1239 (Nat.le_of_ble_eq_true rfl) (Nat.le_of_ble_eq_true rfl) (Nat.zero_le _) (Nat.zero_le _) (Nat.le_of_ble_eq_true rfl) dX0_countWays_65 68 rfl h (fun r65 h => ?_)
        refine jj_istore_n (lv2 := [(0, .ref x0), (1, .int x1), (2, .int x2), (3, .int r65), (4, .int x4)]) hX dX0_countWays_68 (Nat.le_of_ble_eq_true rfl) [1, 2, 3, 0, 4] rfl 69 rfl ?_
        obtain ⟨v69, e69⟩ : ∃ y : Int32, y = x4 + (1 : Int32) := ⟨_, rfl⟩
        have h := h v69 e69
        refine jj_iinc (v := v69) (lv2 := [(0, .ref x0), (1, .int x1), (2, .int x2), (3, .int r65), (4, .int v69)]) hX dX0_countWays_69 4 rfl (by rw [e69, ci_1]) (Nat.le_of_ble_eq_true rfl) [1, 2, 3, 4, 0] rfl 72 rfl ?_
        refine jj_goto hX dX0_countWays_72 20 (by decide) ?_
        exact ih _ _ _ h
set_option maxHeartbeats 4000000 in
set_option maxRecDepth 100000 in
theorem txw0_countWays_L11 {X : JC} {D : va_G} {dA aK aV : Nat → Nat} {sz : Nat} {K : XK} {Post : Int32 → XS → Prop} {x0 : Nat} {x1 : Int32} (hX : JX X yX0_countWays.cls cX0_countWays 5 (Option.some Jvm.ClassFile.FieldType.int) 2 47 0 0) (hY : JY X D dA aK aV (AX K sz)) : ∀ (n : Nat) (x2 : Int32) (u : XS), xw0_countWays_L11 Post K x0 x1 n x2 u → JJ X (AX K sz) (jj_Q X (va_Qi (fun (r : Int32) (w : XS) => Post r w) (jx_B D dA K) (AX K sz)) 0 0 (AX K sz)) 5 (XP D dA (AX K sz) K u) 0 0 11 [(0, .ref x0), (1, .int x1), (2, .int x2)] [] := by
  intro n
  induction n with
  | zero =>
    intro x2 u h
    exact h.elim
  | succ n ih =>
    intro x2 u h
    have h : xw0_countWays_L11_S Post K x0 x1 (xw0_countWays_L11 Post K x0 x1 n) x2 u := h
    unfold xw0_countWays_L11_S at h
    refine jj_iload_n hX dX0_countWays_11 2 rfl 12 rfl ?_
    refine jj_if_lt hX dX0_countWays_12 88 15 (by decide) rfl (fun c12 => ?_) (fun c12 => ?_)
    · have h := h.1 c12
      refine jj_aload_n hX dX0_countWays_88 0 rfl 89 rfl ?_
      obtain ⟨k89, h⟩ := h
      refine xg0_17 hX hY k89 dX0_countWays_89 q428 92 rfl ?_
      refine jj_iconst hX dX0_countWays_92 ci_0 93 rfl ?_
      obtain ⟨b93, g93, h⟩ := h
      refine jj_st (st2 := [.int (0 : Int32), .ref b93]) (by rw [va_rf_some g93]) ?_
      obtain ⟨n93, k93, h⟩ := h
      obtain ⟨hi93, h⟩ := h
      refine jx_iald hX hY.1 k93 0 kc_0 hi93 dX0_countWays_93 94 rfl ?_
      exact jj_reti (post := (fun (r : Int32) (w : XS) => Post r w)) (u := u) hX dX0_countWays_94 (Nat.le_refl 0) (Nat.le_refl 0) jx_hB h
    · have h := h.2 c12
      refine jj_iconst hX dX0_countWays_15 ci_0 16 rfl ?_
      refine jj_istore_n (lv2 := [(0, .ref x0), (1, .int x1), (2, .int x2), (3, .int (0 : Int32))]) hX dX0_countWays_16 (Nat.le_of_ble_eq_true rfl) [1, 2, 3, 0] rfl 17 rfl ?_
      refine jj_iconst hX dX0_countWays_17 ci_0 18 rfl ?_
      refine jj_istore (lv2 := [(0, .ref x0), (1, .int x1), (2, .int x2), (3, .int (0 : Int32)), (4, .int (0 : Int32))]) hX dX0_countWays_18 (Nat.le_of_ble_eq_true rfl) [1, 2, 3, 4, 0] rfl 20 rfl ?_
      obtain ⟨n9, h⟩ := h
      exact txw0_countWays_L20 hX hY ih n9 _ _ _ h
set_option maxHeartbeats 4000000 in
set_option maxRecDepth 100000 in
theorem mxw0_countWays (l : Launch) (hfl : l.stackTraces = false) (D : va_G) (dA aK aV : Nat → Nat) (x0 : Nat) (x1 : Int32) (K : XK) (u : XS) (Post : Int32 → XS → Prop) (h : xw0_countWays x0 x1 K u Post) (sz : Nat) : Met l yX0_countWays (ws_ yX0_countWays cX0_countWays 5 (Option.some Jvm.ClassFile.FieldType.int)) (jx_rm 2 47 0 0) (jx_Pc D dA aK aV K u sz [.ref x0, .int x1]) (va_Qi (fun (r : Int32) (w : XS) => Post r w) (jx_B D dA K) (AX K sz)) 0 0 (AX K sz) := by
  refine jx_start hfl [.ref x0, .int x1] [(0, .ref x0), (1, .int x1)] (by decide) (Nat.le_of_ble_eq_true rfl) rfl (fun X hX hY hin => ?_)
  unfold xw0_countWays at h
  refine jj_aload_n hX dX0_countWays_0 0 rfl 1 rfl ?_
  obtain ⟨k1, h⟩ := h
  refine xg0_17 hX hY k1 dX0_countWays_1 q428 4 rfl ?_
  refine jj_iload_n hX dX0_countWays_4 1 rfl 5 rfl ?_
  refine jj_iconst hX dX0_countWays_5 ci_1 6 rfl ?_
  obtain ⟨b6, g6, h⟩ := h
  refine jj_st (st2 := [.int (1 : Int32), .int x1, .ref b6]) (by rw [va_rf_some g6]) ?_
  obtain ⟨n6, k6, h⟩ := h
  obtain ⟨hi6, h⟩ := h
  refine jx_iast hX hY.1 k6 _ rfl hi6 dX0_countWays_6 7 rfl (fun u6 e6 => ?_)
  have h := h u6 e6
  refine jj_iload_n hX dX0_countWays_7 1 rfl 8 rfl ?_
  refine jj_iconst hX dX0_countWays_8 ci_1 9 rfl ?_
  refine jj_isub hX dX0_countWays_9 10 rfl ?_
  refine jj_topi (fun v10 e10 => ?_)
  have h := h v10 e10
  refine jj_istore_n (lv2 := [(0, .ref x0), (1, .int x1), (2, .int v10)]) hX dX0_countWays_10 (Nat.le_of_ble_eq_true rfl) [1, 2, 0] rfl 11 rfl ?_
  obtain ⟨n9, h⟩ := h
  exact txw0_countWays_L11 hX hY n9 _ _ h
theorem hd_xw0_countWays : yX0_countWays.cls ≠ "java/lang/invoke/MethodHandle" ∧ yX0_countWays.cls ≠ "java/lang/invoke/VarHandle" ∧ (parseMethodDescriptor yX0_countWays.desc).map (fun d => d.parameters.length) = some 1 := by decide +kernel
theorem kxw0_countWays {X : JC} {A : Nat → Prop} {Q : State → Prop} {nL k n pc : Nat} {lv : List (Nat × Value)} {st : List Value} {own : String} {cc : ByteArray} {ret : Option FieldType} {F LL mc ms ix : Nat} {D : va_G} {dA aK aV : Nat → Nat} {K : XK} {u : XS} {x0 : Nat} {x1 : Int32} {Post : Int32 → XS → Prop} (hX : JX X own cc nL ret F LL mc ms) (hY : JY X D dA aK aV A) (h1a : K x0 = (1, 0)) (hlk : (Cond.methodLink own ix yX0_countWays) ∈ lw_all) (hF : 2 + 1 ≤ F) (hL : 8 + (5 + 11) + 47 ≤ LL) (hk : k ≤ mc) (hk2 : n ≤ ms) (hw : (st.map fun v => v.category).sum ≤ 8) (d : decode cc pc = .ok (.invokevirtual ix, 3)) (q : Nat) (hq : pc + 3 = q) (h : xw0_countWays x0 x1 K u  Post) (kk : ∀ (r : Int32) (u2 : XS), Post r u2 → JJ X A Q nL (XP D dA A K u2) k n q lv (.int r :: st)) : JJ X A Q nL (XP D dA A K u) k n pc lv (.int x1 :: .ref x0 :: st) :=
  jx_callVi (na := 1) (As := [.int x1]) hX hY jf0 h1a (fun sz => mxw0_countWays (jj_l X) hY.2.2.2.2 D dA aK aV x0 x1 K u  Post h sz) hlk q1328 qs47 q120 q1329 ⟨rfl, hd_xw0_countWays⟩ rfl rfl hw hF hL hk hk2 d q hq kk
theorem knxw0_countWays {X : JC} {A : Nat → Prop} {Q : State → Prop} {nL k n pc : Nat} {lv : List (Nat × Value)} {st : List Value} {own : String} {cc : ByteArray} {ret : Option FieldType} {F LL mc ms ix : Nat} {D : va_G} {dA aK aV : Nat → Nat} {K : XK} {u : XS} {x0 : Nat} {x1 : Int32} {host : String} {Post : Int32 → XS → Prop} (hX : JX X own cc nL ret F LL mc ms) (hY : JY X D dA aK aV A) (h1a : K x0 = (1, 0)) (hlk : (Cond.methodLinkNest own ix yX0_countWays host) ∈ jx_nest) (hF : 2 + 1 ≤ F) (hL : 8 + (5 + 11) + 47 ≤ LL) (hk : k ≤ mc) (hk2 : n ≤ ms) (hw : (st.map fun v => v.category).sum ≤ 8) (d : decode cc pc = .ok (.invokevirtual ix, 3)) (q : Nat) (hq : pc + 3 = q) (h : xw0_countWays x0 x1 K u  Post) (kk : ∀ (r : Int32) (u2 : XS), Post r u2 → JJ X A Q nL (XP D dA A K u2) k n q lv (.int r :: st)) : JJ X A Q nL (XP D dA A K u) k n pc lv (.int x1 :: .ref x0 :: st) :=
  jx_callNi (na := 1) (As := [.int x1]) hX hY jf0 h1a (fun sz => mxw0_countWays (jj_l X) hY.2.2.2.2 D dA aK aV x0 x1 K u  Post h sz) hlk q1328 qs47 q120 q1329 hd_xw0_countWays rfl rfl hw hF hL hk hk2 d q hq kk
