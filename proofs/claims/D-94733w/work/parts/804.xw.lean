set_option linter.unusedVariables false
def xw0_reset_B40 (Post : Int32 → XK → XS → Prop) (mc ms : Nat) (x0 : Nat) (x1 : Int32) (s0 : Int32) (s1 : Nat) (K : XK) (u : XS) (c s : Nat) : Prop :=
  K s1 = (1, 0) ∧
  ∀ u40 : XS, u40 = xsi u s1 7 s0 →
  (x1 < 0 →
    Post x1 K u40) ∧
  (¬ x1 < 0 →
    K x0 = (1, 0) ∧
    ∃ m52 w52, (c + m52) ≤ mc ∧ (s + w52) ≤ ms ∧ xw0_setter x0 K u40 m52 w52 (fun r52 K52 u52 =>
      K52 r52 = (1, 6) ∧
      ∃ m55 w55, ((c + m52) + m55) ≤ mc ∧ ((s + w52) + w55) ≤ ms ∧ xw6_told r52 K52 u52 m55 w55 (fun r55 K55 u55 =>
        ∃ b58, (xr u40 x0 10) = some b58 ∧
        K55 b58 = (1, 4) ∧
        ∀ u58 : XS, u58 = xsr u55 b58 2 (some r55) →
        Post x1 K55 u58)))
/-- RaisedPress.reset()I -/
def xw0_reset (x0 : Nat) (K : XK) (u : XS) (mc ms : Nat) (Post : Int32 → XK → XS → Prop) : Prop :=
  K x0 = (1, 0) ∧
  xw0_whyNotSet x0 K u (fun r2 u2 =>
    ∀ u5 : XS, u5 = xsi u2 x0 7 r2 →
    ((xi u5 x0 7) ≤ 0 →
      ∃ b22, (xr u5 x0 10) = some b22 ∧
      K b22 = (1, 4) ∧
      ∃ m25 w25, m25 ≤ mc ∧ w25 ≤ ms ∧ xw0_setsWithout x0 (xi u5 b22 1) K u5 m25 w25 (fun r25 K25 u25 =>
        (0 ≤ r25 →
          xw0_reset_B40 Post mc ms x0 r25 (0 : Int32) x0 K25 u25 m25 w25) ∧
        (¬ 0 ≤ r25 →
          xw0_reset_B40 Post mc ms x0 r25 (7 : Int32) x0 K25 u25 m25 w25))) ∧
    (¬ (xi u5 x0 7) ≤ 0 →
      Post (-1 : Int32) K u5))
set_option maxHeartbeats 4000000 in
set_option maxRecDepth 100000 in
theorem txw0_reset_B40 {X : JC} {D : va_G} {dA aK aV : Nat → Nat} {sz : Nat} {K0 : XK} {mc ms : Nat} {Post : Int32 → XK → XS → Prop} {x0 : Nat} {x1 : Int32} {s0 : Int32} {s1 : Nat} {K : XK} {u : XS} {c s : Nat} (hX : JX X yX0_reset.cls cX0_reset 2 (Option.some Jvm.ClassFile.FieldType.int) 7 163 mc ms) (hY : JY X D dA aK aV (AX K0 sz)) (hl : XLe K0 K) (hc : c ≤ mc) (hs : s ≤ ms) (h : xw0_reset_B40 Post mc ms x0 x1 s0 s1 K u c s) : JJ X (AX K0 sz) (jj_Q X (va_Qi (fun (r : Int32) (w : XK × XS) => Post r w.1 w.2) (jx_BA D dA K0 sz) (AX K0 sz)) mc ms (AX K0 sz)) 2 (XP D dA (AX K0 sz) K u) c s 40 [(0, .ref x0), (1, .int x1)] [.int s0, .ref s1] := by
  unfold xw0_reset_B40 at h
  obtain ⟨k40, h⟩ := h
  refine xp0_7 hX hY k40 dX0_reset_40 q418 43 rfl (fun u40 e40 => ?_)
  have h := h u40 e40
  refine jj_iload_n hX dX0_reset_43 1 rfl 44 rfl ?_
  refine jj_if_lt hX dX0_reset_44 61 47 (by decide) rfl (fun c44 => ?_) (fun c44 => ?_)
  · have h := h.1 c44
    refine jj_iload_n hX dX0_reset_61 1 rfl 62 rfl ?_
    exact jj_reti (post := (fun (r : Int32) (w : XK × XS) => Post r w.1 w.2)) (u := (K, u40)) hX dX0_reset_62 hc hs (jx_hBA hl) h
  · have h := h.2 c44
    refine jj_aload_n hX dX0_reset_47 0 rfl 48 rfl ?_
    obtain ⟨k48, h⟩ := h
    refine xg0_10 hX hY k48 dX0_reset_48 q421 51 rfl ?_
    refine jj_aload_n hX dX0_reset_51 0 rfl 52 rfl ?_
    obtain ⟨m52, w52, hc52, hs52, h⟩ := h
    refine kxw0_setter hX hY k48 q875 (Nat.le_of_ble_eq_true rfl) (Nat.le_of_ble_eq_true rfl) hc52 hs52 (by simp [jx_rfc, jx_c1, jx_c2, jx_c3, jx_c4]) dX0_reset_52 55 rfl h (fun r52 K52 u52 hle52 h => ?_)
    have k52 := hle52.at k40 (by simp)
    have k52_1 := hle52.at k48 (by simp)
    have hl52 := hl.tr hle52
    refine jj_cs (k2 := (c + m52)) (n2 := (s + w52)) (by simp) (by simp) ?_
    obtain ⟨k55, h⟩ := h
    obtain ⟨m55, w55, hc55, hs55, h⟩ := h
    refine kxw6_told hX hY k55 q972 (Nat.le_of_ble_eq_true rfl) (Nat.le_of_ble_eq_true rfl) hc55 hs55 (by simp [jx_rfc, jx_c1, jx_c2, jx_c3, jx_c4]) dX0_reset_55 58 rfl h (fun r55 K55 u55 hle55 h => ?_)
    have k55_1 := hle55.at k52 (by simp)
    have k55_2 := hle55.at k52_1 (by simp)
    have k55_3 := hle55.at k55 (by simp)
    have hl55 := hl52.tr hle55
    refine jj_cs (k2 := ((c + m52) + m55)) (n2 := ((s + w52) + w55)) (by simp) (by simp) ?_
    obtain ⟨b58, g58, h⟩ := h
    refine jj_st (st2 := [.ref r55, .ref b58]) (by rw [va_rf_some g58]) ?_
    obtain ⟨k58, h⟩ := h
    refine xpn4_2 (v := (some r55)) hX hY k58 dX0_reset_58 nq319 61 rfl (fun u58 e58 => ?_)
    have h := h u58 e58
    refine jj_iload_n hX dX0_reset_61 1 rfl 62 rfl ?_
    exact jj_reti (post := (fun (r : Int32) (w : XK × XS) => Post r w.1 w.2)) (u := (K55, u58)) hX dX0_reset_62 hc55 hs55 (jx_hBA hl55) h
set_option maxHeartbeats 4000000 in
set_option maxRecDepth 100000 in
theorem mxw0_reset (l : Launch) (hfl : l.stackTraces = false) (D : va_G) (dA aK aV : Nat → Nat) (x0 : Nat) (K : XK) (u : XS) (mc ms : Nat) (Post : Int32 → XK → XS → Prop) (h : xw0_reset x0 K u mc ms Post) (sz : Nat) : Met l yX0_reset (ws_ yX0_reset cX0_reset 2 (Option.some Jvm.ClassFile.FieldType.int)) (jx_rm 7 163 mc ms) (jx_Pc D dA aK aV K u sz [.ref x0]) (va_Qi (fun (r : Int32) (w : XK × XS) => Post r w.1 w.2) (jx_BA D dA K sz) (AX K sz)) mc ms (AX K sz) := by
  refine jx_start hfl [.ref x0] [(0, .ref x0)] (by decide) (Nat.le_of_ble_eq_true rfl) rfl (fun X hX hY hin => ?_)
  unfold xw0_reset at h
  refine jj_aload_n hX dX0_reset_0 0 rfl 1 rfl ?_
  refine jj_aload_n hX dX0_reset_1 0 rfl 2 rfl ?_
  obtain ⟨k2, h⟩ := h
  refine kxw0_whyNotSet hX hY k2 q1111 (Nat.le_of_ble_eq_true rfl) (Nat.le_of_ble_eq_true rfl) (Nat.zero_le _) (Nat.zero_le _) (Nat.le_of_ble_eq_true rfl) dX0_reset_2 5 rfl h (fun r2 u2 h => ?_)
  refine xp0_7 hX hY k2 dX0_reset_5 q418 8 rfl (fun u5 e5 => ?_)
  have h := h u5 e5
  refine jj_aload_n hX dX0_reset_8 0 rfl 9 rfl ?_
  refine xg0_7 hX hY k2 dX0_reset_9 q418 12 rfl ?_
  refine jj_if_le hX dX0_reset_12 17 15 (by decide) rfl (fun c12 => ?_) (fun c12 => ?_)
  · have h := h.1 c12
    refine jj_aload_n hX dX0_reset_17 0 rfl 18 rfl ?_
    refine jj_aload_n hX dX0_reset_18 0 rfl 19 rfl ?_
    refine xg0_10 hX hY k2 dX0_reset_19 q421 22 rfl ?_
    obtain ⟨b22, g22, h⟩ := h
    refine jj_st (st2 := [.ref b22, .ref x0]) (by rw [va_rf_some g22]) ?_
    obtain ⟨k22, h⟩ := h
    refine xgn4_1 hX hY k22 dX0_reset_22 nq317 25 rfl ?_
    obtain ⟨m25, w25, hc25, hs25, h⟩ := h
    refine kxw0_setsWithout hX hY k2 q1119 (Nat.le_of_ble_eq_true rfl) (Nat.le_of_ble_eq_true rfl) (by simpa using hc25) (by simpa using hs25) (Nat.le_of_ble_eq_true rfl) dX0_reset_25 28 rfl h (fun r25 K25 u25 hle25 h => ?_)
    have k25 := hle25.at k2 (by simp)
    have k25_1 := hle25.at k22 (by simp)
    have hl25 := XLe.rf.tr hle25
    refine jj_cs (k2 := m25) (n2 := w25) (by simp) (by simp) ?_
    refine jj_istore_n (lv2 := [(0, .ref x0), (1, .int r25)]) hX dX0_reset_28 (Nat.le_of_ble_eq_true rfl) [1, 0] rfl 29 rfl ?_
    refine jj_aload_n hX dX0_reset_29 0 rfl 30 rfl ?_
    refine jj_iload_n hX dX0_reset_30 1 rfl 31 rfl ?_
    refine jj_if_ge hX dX0_reset_31 39 34 (by decide) rfl (fun c31 => ?_) (fun c31 => ?_)
    · have h := h.1 c31
      refine jj_iconst hX dX0_reset_39 ci_0 40 rfl ?_
      exact txw0_reset_B40 hX hY hl25 hc25 hs25 h
    · have h := h.2 c31
      refine jj_bipush hX dX0_reset_34 cb_7 36 rfl ?_
      refine jj_goto hX dX0_reset_36 40 (by decide) ?_
      exact txw0_reset_B40 hX hY hl25 hc25 hs25 h
  · have h := h.2 c12
    refine jj_iconst hX dX0_reset_15 ci_m1 16 rfl ?_
    exact jj_reti (post := (fun (r : Int32) (w : XK × XS) => Post r w.1 w.2)) (u := (K, u5)) hX dX0_reset_16 (Nat.zero_le _) (Nat.zero_le _) (jx_hBA XLe.rf) h
theorem hd_xw0_reset : yX0_reset.cls ≠ "java/lang/invoke/MethodHandle" ∧ yX0_reset.cls ≠ "java/lang/invoke/VarHandle" ∧ (parseMethodDescriptor yX0_reset.desc).map (fun d => d.parameters.length) = some 0 := by decide +kernel
theorem kxw0_reset {X : JC} {A : Nat → Prop} {Q : State → Prop} {nL k n pc : Nat} {lv : List (Nat × Value)} {st : List Value} {own : String} {cc : ByteArray} {ret : Option FieldType} {F LL mc ms ix mc2 ms2 : Nat} {D : va_G} {dA aK aV : Nat → Nat} {K : XK} {u : XS} {x0 : Nat} {Post : Int32 → XK → XS → Prop} (hX : JX X own cc nL ret F LL mc ms) (hY : JY X D dA aK aV A) (h1a : K x0 = (1, 0)) (hlk : (Cond.methodLink own ix yX0_reset) ∈ lw_all) (hF : 7 + 1 ≤ F) (hL : 8 + (2 + 11) + 163 ≤ LL) (hk : k + mc2 ≤ mc) (hk2 : n + ms2 ≤ ms) (hw : (st.map fun v => v.category).sum ≤ 8) (d : decode cc pc = .ok (.invokevirtual ix, 3)) (q : Nat) (hq : pc + 3 = q) (h : xw0_reset x0 K u mc2 ms2 Post) (kk : ∀ (r : Int32) (K2 : XK) (u2 : XS), XLe K K2 → Post r K2 u2 → JJ X A Q nL (XP D dA A K2 u2) (k + mc2) (n + ms2) q lv (.int r :: st)) : JJ X A Q nL (XP D dA A K u) k n pc lv (.ref x0 :: st) :=
  jx_callViA (na := 0) (As := []) hX hY jf0 h1a (fun sz => mxw0_reset (jj_l X) hY.2.2.2.2 D dA aK aV x0 K u mc2 ms2 Post h sz) hlk q1108 q1109 q120 q1110 ⟨rfl, hd_xw0_reset⟩ rfl rfl hw hF hL hk hk2 d q hq kk
theorem knxw0_reset {X : JC} {A : Nat → Prop} {Q : State → Prop} {nL k n pc : Nat} {lv : List (Nat × Value)} {st : List Value} {own : String} {cc : ByteArray} {ret : Option FieldType} {F LL mc ms ix mc2 ms2 : Nat} {D : va_G} {dA aK aV : Nat → Nat} {K : XK} {u : XS} {x0 : Nat} {host : String} {Post : Int32 → XK → XS → Prop} (hX : JX X own cc nL ret F LL mc ms) (hY : JY X D dA aK aV A) (h1a : K x0 = (1, 0)) (hlk : (Cond.methodLinkNest own ix yX0_reset host) ∈ jx_nest) (hF : 7 + 1 ≤ F) (hL : 8 + (2 + 11) + 163 ≤ LL) (hk : k + mc2 ≤ mc) (hk2 : n + ms2 ≤ ms) (hw : (st.map fun v => v.category).sum ≤ 8) (d : decode cc pc = .ok (.invokevirtual ix, 3)) (q : Nat) (hq : pc + 3 = q) (h : xw0_reset x0 K u mc2 ms2 Post) (kk : ∀ (r : Int32) (K2 : XK) (u2 : XS), XLe K K2 → Post r K2 u2 → JJ X A Q nL (XP D dA A K2 u2) (k + mc2) (n + ms2) q lv (.int r :: st)) : JJ X A Q nL (XP D dA A K u) k n pc lv (.ref x0 :: st) :=
  jx_callNiA (na := 0) (As := []) hX hY jf0 h1a (fun sz => mxw0_reset (jj_l X) hY.2.2.2.2 D dA aK aV x0 K u mc2 ms2 Post h sz) hlk q1108 q1109 q120 q1110 hd_xw0_reset rfl rfl hw hF hL hk hk2 d q hq kk
/-- RaisedPress$Writing.lines()I -/
def xw15_lines (x0 : Nat) (K : XK) (u : XS) (Post : Int32 → XS → Prop) : Prop :=
  K x0 = (1, 15) ∧
  ∃ b4, (xr u x0 8) = some b4 ∧
  ∃ n4, K b4 = (2, n4) ∧
  Post ((nI n4) - (1 : Int32)) u
set_option maxHeartbeats 4000000 in
set_option maxRecDepth 100000 in
theorem mxw15_lines (l : Launch) (hfl : l.stackTraces = false) (D : va_G) (dA aK aV : Nat → Nat) (x0 : Nat) (K : XK) (u : XS) (Post : Int32 → XS → Prop) (h : xw15_lines x0 K u Post) (sz : Nat) : Met l yX15_lines (ws_ yX15_lines cX15_lines 1 (Option.some Jvm.ClassFile.FieldType.int)) (jx_rm 0 0 0 0) (jx_Pc D dA aK aV K u sz [.ref x0]) (va_Qi (fun (r : Int32) (w : XS) => Post r w) (jx_B D dA K) (AX K sz)) 0 0 (AX K sz) := by
  refine jx_start hfl [.ref x0] [(0, .ref x0)] (by decide) (Nat.le_of_ble_eq_true rfl) rfl (fun X hX hY hin => ?_)
  unfold xw15_lines at h
  refine jj_aload_n hX dX15_lines_0 0 rfl 1 rfl ?_
  obtain ⟨k1, h⟩ := h
  refine xg15_8 hX hY k1 dX15_lines_1 q1022 4 rfl ?_
  obtain ⟨b4, g4, h⟩ := h
  refine jj_st (st2 := [.ref b4]) (by rw [va_rf_some g4]) ?_
  obtain ⟨n4, k4, h⟩ := h
  refine jx_alen hX hY.1 k4 dX15_lines_4 5 rfl ?_
  refine jj_iconst hX dX15_lines_5 ci_1 6 rfl ?_
  refine jj_isub hX dX15_lines_6 7 rfl ?_
  exact jj_reti (post := (fun (r : Int32) (w : XS) => Post r w)) (u := u) hX dX15_lines_7 (Nat.le_refl 0) (Nat.le_refl 0) jx_hB h
theorem hd_xw15_lines : yX15_lines.cls ≠ "java/lang/invoke/MethodHandle" ∧ yX15_lines.cls ≠ "java/lang/invoke/VarHandle" ∧ (parseMethodDescriptor yX15_lines.desc).map (fun d => d.parameters.length) = some 0 := by decide +kernel
theorem kxw15_lines {X : JC} {A : Nat → Prop} {Q : State → Prop} {nL k n pc : Nat} {lv : List (Nat × Value)} {st : List Value} {own : String} {cc : ByteArray} {ret : Option FieldType} {F LL mc ms ix : Nat} {D : va_G} {dA aK aV : Nat → Nat} {K : XK} {u : XS} {x0 : Nat} {Post : Int32 → XS → Prop} (hX : JX X own cc nL ret F LL mc ms) (hY : JY X D dA aK aV A) (h1a : K x0 = (1, 15)) (hlk : (Cond.methodLink own ix yX15_lines) ∈ lw_all) (hF : 0 + 1 ≤ F) (hL : 8 + (1 + 11) + 0 ≤ LL) (hk : k ≤ mc) (hk2 : n ≤ ms) (hw : (st.map fun v => v.category).sum ≤ 8) (d : decode cc pc = .ok (.invokevirtual ix, 3)) (q : Nat) (hq : pc + 3 = q) (h : xw15_lines x0 K u  Post) (kk : ∀ (r : Int32) (u2 : XS), Post r u2 → JJ X A Q nL (XP D dA A K u2) k n q lv (.int r :: st)) : JJ X A Q nL (XP D dA A K u) k n pc lv (.ref x0 :: st) :=
  jx_callVi (na := 0) (As := []) hX hY jf15 h1a (fun sz => mxw15_lines (jj_l X) hY.2.2.2.2 D dA aK aV x0 K u  Post h sz) hlk q1129 q1130 q147 q1131 ⟨rfl, hd_xw15_lines⟩ rfl rfl hw hF hL hk hk2 d q hq kk
theorem knxw15_lines {X : JC} {A : Nat → Prop} {Q : State → Prop} {nL k n pc : Nat} {lv : List (Nat × Value)} {st : List Value} {own : String} {cc : ByteArray} {ret : Option FieldType} {F LL mc ms ix : Nat} {D : va_G} {dA aK aV : Nat → Nat} {K : XK} {u : XS} {x0 : Nat} {host : String} {Post : Int32 → XS → Prop} (hX : JX X own cc nL ret F LL mc ms) (hY : JY X D dA aK aV A) (h1a : K x0 = (1, 15)) (hlk : (Cond.methodLinkNest own ix yX15_lines host) ∈ jx_nest) (hF : 0 + 1 ≤ F) (hL : 8 + (1 + 11) + 0 ≤ LL) (hk : k ≤ mc) (hk2 : n ≤ ms) (hw : (st.map fun v => v.category).sum ≤ 8) (d : decode cc pc = .ok (.invokevirtual ix, 3)) (q : Nat) (hq : pc + 3 = q) (h : xw15_lines x0 K u  Post) (kk : ∀ (r : Int32) (u2 : XS), Post r u2 → JJ X A Q nL (XP D dA A K u2) k n q lv (.int r :: st)) : JJ X A Q nL (XP D dA A K u) k n pc lv (.ref x0 :: st) :=
  jx_callNi (na := 0) (As := []) hX hY jf15 h1a (fun sz => mxw15_lines (jj_l X) hY.2.2.2.2 D dA aK aV x0 K u  Post h sz) hlk q1129 q1130 q147 q1131 hd_xw15_lines rfl rfl hw hF hL hk hk2 d q hq kk
/-- RaisedPress.pages()I -/
def xw0_pages (x0 : Nat) (K : XK) (u : XS) (Post : Int32 → XS → Prop) : Prop :=
  K x0 = (1, 0) ∧
  ∃ b4, (xr u x0 10) = some b4 ∧
  K b4 = (1, 4) ∧
  ∃ b7, (xr u b4 2) = some b7 ∧
  K b7 = (1, 15) ∧
  xw15_lines b7 K u (fun r7 u7 =>
    xw0_table x0 K u7 (fun r11 u11 =>
      K r11 = (1, 5) ∧
      xw0_table x0 K u11 (fun r21 u21 =>
        K r21 = (1, 5) ∧
        ¬ (xi u21 r21 6) = 0 ∧
        Post (((r7 + (xi u11 r11 6)) - (1 : Int32)) / (xi u21 r21 6)) u21)))
set_option maxHeartbeats 4000000 in
set_option maxRecDepth 100000 in
theorem mxw0_pages (l : Launch) (hfl : l.stackTraces = false) (D : va_G) (dA aK aV : Nat → Nat) (x0 : Nat) (K : XK) (u : XS) (Post : Int32 → XS → Prop) (h : xw0_pages x0 K u Post) (sz : Nat) : Met l yX0_pages (ws_ yX0_pages cX0_pages 1 (Option.some Jvm.ClassFile.FieldType.int)) (jx_rm 1 20 0 0) (jx_Pc D dA aK aV K u sz [.ref x0]) (va_Qi (fun (r : Int32) (w : XS) => Post r w) (jx_B D dA K) (AX K sz)) 0 0 (AX K sz) := by
  refine jx_start hfl [.ref x0] [(0, .ref x0)] (by decide) (Nat.le_of_ble_eq_true rfl) rfl (fun X hX hY hin => ?_)
  unfold xw0_pages at h
  refine jj_aload_n hX dX0_pages_0 0 rfl 1 rfl ?_
  obtain ⟨k1, h⟩ := h
  refine xg0_10 hX hY k1 dX0_pages_1 q421 4 rfl ?_
  obtain ⟨b4, g4, h⟩ := h
  refine jj_st (st2 := [.ref b4]) (by rw [va_rf_some g4]) ?_
  obtain ⟨k4, h⟩ := h
  refine xgn4_2 hX hY k4 dX0_pages_4 nq319 7 rfl ?_
  obtain ⟨b7, g7, h⟩ := h
  refine jj_st (st2 := [.ref b7]) (by rw [va_rf_some g7]) ?_
  obtain ⟨k7, h⟩ := h
  refine kxw15_lines hX hY k7 q1128 (Nat.le_of_ble_eq_true rfl) (Nat.le_of_ble_eq_true rfl) (Nat.zero_le _) (Nat.zero_le _) (Nat.le_of_ble_eq_true rfl) dX0_pages_7 10 rfl h (fun r7 u7 h => ?_)
  refine jj_aload_n hX dX0_pages_10 0 rfl 11 rfl ?_
  refine kxw0_table hX hY k1 q879 (Nat.le_of_ble_eq_true rfl) (Nat.le_of_ble_eq_true rfl) (Nat.zero_le _) (Nat.zero_le _) (Nat.le_of_ble_eq_true rfl) dX0_pages_11 14 rfl h (fun r11 u11 h => ?_)
  obtain ⟨k14, h⟩ := h
  refine xgn5_6 hX hY k14 dX0_pages_14 nq298 17 rfl ?_
  refine jj_iadd hX dX0_pages_17 18 rfl ?_
  refine jj_iconst hX dX0_pages_18 ci_1 19 rfl ?_
  refine jj_isub hX dX0_pages_19 20 rfl ?_
  refine jj_aload_n hX dX0_pages_20 0 rfl 21 rfl ?_
  refine kxw0_table hX hY k1 q879 (Nat.le_of_ble_eq_true rfl) (Nat.le_of_ble_eq_true rfl) (Nat.zero_le _) (Nat.zero_le _) (Nat.le_of_ble_eq_true rfl) dX0_pages_21 24 rfl h (fun r21 u21 h => ?_)
  obtain ⟨k24, h⟩ := h
  refine xgn5_6 hX hY k24 dX0_pages_24 nq298 27 rfl ?_
  obtain ⟨hn27, h⟩ := h
  refine jj_idiv hX dX0_pages_27 hn27 28 rfl ?_
  exact jj_reti (post := (fun (r : Int32) (w : XS) => Post r w)) (u := u21) hX dX0_pages_28 (Nat.le_refl 0) (Nat.le_refl 0) jx_hB h
theorem hd_xw0_pages : yX0_pages.cls ≠ "java/lang/invoke/MethodHandle" ∧ yX0_pages.cls ≠ "java/lang/invoke/VarHandle" ∧ (parseMethodDescriptor yX0_pages.desc).map (fun d => d.parameters.length) = some 0 := by decide +kernel
theorem kxw0_pages {X : JC} {A : Nat → Prop} {Q : State → Prop} {nL k n pc : Nat} {lv : List (Nat × Value)} {st : List Value} {own : String} {cc : ByteArray} {ret : Option FieldType} {F LL mc ms ix : Nat} {D : va_G} {dA aK aV : Nat → Nat} {K : XK} {u : XS} {x0 : Nat} {Post : Int32 → XS → Prop} (hX : JX X own cc nL ret F LL mc ms) (hY : JY X D dA aK aV A) (h1a : K x0 = (1, 0)) (hlk : (Cond.methodLink own ix yX0_pages) ∈ lw_all) (hF : 1 + 1 ≤ F) (hL : 8 + (1 + 11) + 20 ≤ LL) (hk : k ≤ mc) (hk2 : n ≤ ms) (hw : (st.map fun v => v.category).sum ≤ 8) (d : decode cc pc = .ok (.invokevirtual ix, 3)) (q : Nat) (hq : pc + 3 = q) (h : xw0_pages x0 K u  Post) (kk : ∀ (r : Int32) (u2 : XS), Post r u2 → JJ X A Q nL (XP D dA A K u2) k n q lv (.int r :: st)) : JJ X A Q nL (XP D dA A K u) k n pc lv (.ref x0 :: st) :=
  jx_callVi (na := 0) (As := []) hX hY jf0 h1a (fun sz => mxw0_pages (jj_l X) hY.2.2.2.2 D dA aK aV x0 K u  Post h sz) hlk q1134 qs38 q120 q1135 ⟨rfl, hd_xw0_pages⟩ rfl rfl hw hF hL hk hk2 d q hq kk
theorem knxw0_pages {X : JC} {A : Nat → Prop} {Q : State → Prop} {nL k n pc : Nat} {lv : List (Nat × Value)} {st : List Value} {own : String} {cc : ByteArray} {ret : Option FieldType} {F LL mc ms ix : Nat} {D : va_G} {dA aK aV : Nat → Nat} {K : XK} {u : XS} {x0 : Nat} {host : String} {Post : Int32 → XS → Prop} (hX : JX X own cc nL ret F LL mc ms) (hY : JY X D dA aK aV A) (h1a : K x0 = (1, 0)) (hlk : (Cond.methodLinkNest own ix yX0_pages host) ∈ jx_nest) (hF : 1 + 1 ≤ F) (hL : 8 + (1 + 11) + 20 ≤ LL) (hk : k ≤ mc) (hk2 : n ≤ ms) (hw : (st.map fun v => v.category).sum ≤ 8) (d : decode cc pc = .ok (.invokevirtual ix, 3)) (q : Nat) (hq : pc + 3 = q) (h : xw0_pages x0 K u  Post) (kk : ∀ (r : Int32) (u2 : XS), Post r u2 → JJ X A Q nL (XP D dA A K u2) k n q lv (.int r :: st)) : JJ X A Q nL (XP D dA A K u) k n pc lv (.ref x0 :: st) :=
  jx_callNi (na := 0) (As := []) hX hY jf0 h1a (fun sz => mxw0_pages (jj_l X) hY.2.2.2.2 D dA aK aV x0 K u  Post h sz) hlk q1134 qs38 q120 q1135 hd_xw0_pages rfl rfl hw hF hL hk hk2 d q hq kk
def xw0_size_B21 (Post : Int32 → XS → Prop) (K : XK) (x0 : Nat) (x1 : Int32) (s0 : Int32) (s1 : Nat) (u : XS) : Prop :=
  K s1 = (1, 0) ∧
  ∀ u21 : XS, u21 = xsi u s1 7 s0 →
  K x0 = (1, 0) ∧
  ((xi u21 x0 7) ≤ 0 →
    (x1.toInt < 0 ∨ 3 < x1.toInt →
      ∃ b108, (xr u21 x0 10) = some b108 ∧
      K b108 = (1, 4) ∧
      ∃ b111, (xr u21 b108 2) = some b111 ∧
      K b111 = (1, 15) ∧
      Post (xi u21 b111 10) u21) ∧
    (x1 = (0 : Int32) →
      ∃ b68, (xr u21 x0 10) = some b68 ∧
      K b68 = (1, 4) ∧
      ∃ b71, (xr u21 b68 2) = some b71 ∧
      K b71 = (1, 15) ∧
      ∃ b74, (xr u21 b71 1) = some b74 ∧
      ∃ n74, K b74 = (2, n74) ∧
      Post (nI n74) u21) ∧
    (x1 = (1 : Int32) →
      ∃ b80, (xr u21 x0 10) = some b80 ∧
      K b80 = (1, 4) ∧
      ∃ b83, (xr u21 b80 2) = some b83 ∧
      K b83 = (1, 15) ∧
      xw15_lines b83 K u21 (fun r83 u83 =>
        Post r83 u83)) ∧
    (x1 = (2 : Int32) →
      xw0_pages x0 K u21 (fun r88 u88 =>
        Post r88 u88)) ∧
    (x1 = (3 : Int32) →
      ∃ b96, (xr u21 x0 10) = some b96 ∧
      K b96 = (1, 4) ∧
      ∃ b99, (xr u21 b96 2) = some b99 ∧
      K b99 = (1, 15) ∧
      ∃ b102, (xr u21 b99 2) = some b102 ∧
      ∃ n102, K b102 = (2, n102) ∧
      Post (nI n102) u21)) ∧
  (¬ (xi u21 x0 7) ≤ 0 →
    Post (-1 : Int32) u21)
/-- RaisedPress.size(I)I -/
def xw0_size (x0 : Nat) (x1 : Int32) (K : XK) (u : XS) (Post : Int32 → XS → Prop) : Prop :=
  xs_isIn x1.toInt64 (0 : Int64) (4 : Int64) (fun r7 =>
    (¬ r7 = 0 →
      K x0 = (1, 0) ∧
      xw0_whyNotSet x0 K u (fun r18 u18 =>
        xw0_size_B21 Post K x0 x1 r18 x0 u18)) ∧
    (r7 = 0 →
      xw0_size_B21 Post K x0 x1 (1 : Int32) x0 u))
set_option maxHeartbeats 4000000 in
set_option maxRecDepth 100000 in
theorem txw0_size_B21 {X : JC} {D : va_G} {dA aK aV : Nat → Nat} {sz : Nat} {K : XK} {Post : Int32 → XS → Prop} {x0 : Nat} {x1 : Int32} {s0 : Int32} {s1 : Nat} {u : XS} (hX : JX X yX0_size.cls cX0_size 2 (Option.some Jvm.ClassFile.FieldType.int) 2 40 0 0) (hY : JY X D dA aK aV (AX K sz)) (h : xw0_size_B21 Post K x0 x1 s0 s1 u) : JJ X (AX K sz) (jj_Q X (va_Qi (fun (r : Int32) (w : XS) => Post r w) (jx_B D dA K) (AX K sz)) 0 0 (AX K sz)) 2 (XP D dA (AX K sz) K u) 0 0 21 [(0, .ref x0), (1, .int x1)] [.int s0, .ref s1] := by
  unfold xw0_size_B21 at h
  obtain ⟨k21, h⟩ := h
  refine xp0_7 hX hY k21 dX0_size_21 q418 24 rfl (fun u21 e21 => ?_)
  have h := h u21 e21
  refine jj_aload_n hX dX0_size_24 0 rfl 25 rfl ?_
  obtain ⟨k25, h⟩ := h
  refine xg0_7 hX hY k25 dX0_size_25 q418 28 rfl ?_
  refine jj_if_le hX dX0_size_28 33 31 (by decide) rfl (fun c28 => ?_) (fun c28 => ?_)
  · have h := h.1 c28
    refine jj_iload_n hX dX0_size_33 1 rfl 34 rfl ?_
    by_cases c34 : x1.toInt < 0 ∨ 3 < x1.toInt
    · have h := h.1 c34
      refine jj_tabo hX dX0_size_34 c34 104 (by decide) ?_
      refine jj_aload_n hX dX0_size_104 0 rfl 105 rfl ?_
      refine xg0_10 hX hY k25 dX0_size_105 q421 108 rfl ?_
      obtain ⟨b108, g108, h⟩ := h
      refine jj_st (st2 := [.ref b108]) (by rw [va_rf_some g108]) ?_
      obtain ⟨k108, h⟩ := h
      refine xgn4_2 hX hY k108 dX0_size_108 nq319 111 rfl ?_
      obtain ⟨b111, g111, h⟩ := h
      refine jj_st (st2 := [.ref b111]) (by rw [va_rf_some g111]) ?_
      obtain ⟨k111, h⟩ := h
      refine xgn15_10 hX hY k111 dX0_size_111 nq1029 114 rfl ?_
      exact jj_reti (post := (fun (r : Int32) (w : XS) => Post r w)) (u := u21) hX dX0_size_114 (Nat.le_refl 0) (Nat.le_refl 0) jx_hB h
    · obtain ⟨j9, hj9, ej9⟩ := jj_tsw (m := 3) (by decide) c34
      replace h := h.2
      match j9, hj9, ej9 with
      | 0, _, ej9 =>
        have ej9 : x1 = (0 : Int32) := ej9
        have h := h.1 ej9
        refine jj_tabi hX dX0_size_34 (by rw [ej9]; decide) (by rw [ej9]; decide) (off := 30) (by rw [ej9]; rfl) 64 (by decide) ?_
        refine jj_aload_n hX dX0_size_64 0 rfl 65 rfl ?_
        refine xg0_10 hX hY k25 dX0_size_65 q421 68 rfl ?_
        obtain ⟨b68, g68, h⟩ := h
        refine jj_st (st2 := [.ref b68]) (by rw [va_rf_some g68]) ?_
        obtain ⟨k68, h⟩ := h
        refine xgn4_2 hX hY k68 dX0_size_68 nq319 71 rfl ?_
        obtain ⟨b71, g71, h⟩ := h
        refine jj_st (st2 := [.ref b71]) (by rw [va_rf_some g71]) ?_
        obtain ⟨k71, h⟩ := h
        refine xgn15_1 hX hY k71 dX0_size_71 nq1003 74 rfl ?_
        obtain ⟨b74, g74, h⟩ := h
        refine jj_st (st2 := [.ref b74]) (by rw [va_rf_some g74]) ?_
        obtain ⟨n74, k74, h⟩ := h
        refine jx_alen hX hY.1 k74 dX0_size_74 75 rfl ?_
        exact jj_reti (post := (fun (r : Int32) (w : XS) => Post r w)) (u := u21) hX dX0_size_75 (Nat.le_refl 0) (Nat.le_refl 0) jx_hB h
      | 1, _, ej9 =>
        have ej9 : x1 = (1 : Int32) := ej9
        have h := h.2.1 ej9
        refine jj_tabi hX dX0_size_34 (by rw [ej9]; decide) (by rw [ej9]; decide) (off := 42) (by rw [ej9]; rfl) 76 (by decide) ?_
        refine jj_aload_n hX dX0_size_76 0 rfl 77 rfl ?_
        refine xg0_10 hX hY k25 dX0_size_77 q421 80 rfl ?_
        obtain ⟨b80, g80, h⟩ := h
        refine jj_st (st2 := [.ref b80]) (by rw [va_rf_some g80]) ?_
        obtain ⟨k80, h⟩ := h
        refine xgn4_2 hX hY k80 dX0_size_80 nq319 83 rfl ?_
        obtain ⟨b83, g83, h⟩ := h
        refine jj_st (st2 := [.ref b83]) (by rw [va_rf_some g83]) ?_
        obtain ⟨k83, h⟩ := h
        refine kxw15_lines hX hY k83 q1128 (Nat.le_of_ble_eq_true rfl) (Nat.le_of_ble_eq_true rfl) (Nat.zero_le _) (Nat.zero_le _) (Nat.le_of_ble_eq_true rfl) dX0_size_83 86 rfl h (fun r83 u83 h => ?_)
        exact jj_reti (post := (fun (r : Int32) (w : XS) => Post r w)) (u := u83) hX dX0_size_86 (Nat.le_refl 0) (Nat.le_refl 0) jx_hB h
      | 2, _, ej9 =>
        have ej9 : x1 = (2 : Int32) := ej9
        have h := h.2.2.1 ej9
        refine jj_tabi hX dX0_size_34 (by rw [ej9]; decide) (by rw [ej9]; decide) (off := 53) (by rw [ej9]; rfl) 87 (by decide) ?_
        refine jj_aload_n hX dX0_size_87 0 rfl 88 rfl ?_
        refine kxw0_pages hX hY k25 q1132 (Nat.le_of_ble_eq_true rfl) (Nat.le_of_ble_eq_true rfl) (Nat.zero_le _) (Nat.zero_le _) (Nat.le_of_ble_eq_true rfl) dX0_size_88 91 rfl h (fun r88 u88 h => ?_)
        exact jj_reti (post := (fun (r : Int32) (w : XS) => Post r w)) (u := u88) hX dX0_size_91 (Nat.le_refl 0) (Nat.le_refl 0) jx_hB h
      | 3, _, ej9 =>
        have ej9 : x1 = (3 : Int32) := ej9
        have h := h.2.2.2 ej9
        refine jj_tabi hX dX0_size_34 (by rw [ej9]; decide) (by rw [ej9]; decide) (off := 58) (by rw [ej9]; rfl) 92 (by decide) ?_
        refine jj_aload_n hX dX0_size_92 0 rfl 93 rfl ?_
        refine xg0_10 hX hY k25 dX0_size_93 q421 96 rfl ?_
        obtain ⟨b96, g96, h⟩ := h
        refine jj_st (st2 := [.ref b96]) (by rw [va_rf_some g96]) ?_
        obtain ⟨k96, h⟩ := h
        refine xgn4_2 hX hY k96 dX0_size_96 nq319 99 rfl ?_
        obtain ⟨b99, g99, h⟩ := h
        refine jj_st (st2 := [.ref b99]) (by rw [va_rf_some g99]) ?_
        obtain ⟨k99, h⟩ := h
        refine xgn15_2 hX hY k99 dX0_size_99 nq1006 102 rfl ?_
        obtain ⟨b102, g102, h⟩ := h
        refine jj_st (st2 := [.ref b102]) (by rw [va_rf_some g102]) ?_
        obtain ⟨n102, k102, h⟩ := h
        refine jx_alen hX hY.1 k102 dX0_size_102 103 rfl ?_
        exact jj_reti (post := (fun (r : Int32) (w : XS) => Post r w)) (u := u21) hX dX0_size_103 (Nat.le_refl 0) (Nat.le_refl 0) jx_hB h
      | j9 + 4, hj9, _ => exact absurd hj9 (by omega)
  · have h := h.2 c28
    refine jj_iconst hX dX0_size_31 ci_m1 32 rfl ?_
    exact jj_reti (post := (fun (r : Int32) (w : XS) => Post r w)) (u := u21) hX dX0_size_32 (Nat.le_refl 0) (Nat.le_refl 0) jx_hB h
set_option maxHeartbeats 4000000 in
set_option maxRecDepth 100000 in
theorem mxw0_size (l : Launch) (hfl : l.stackTraces = false) (D : va_G) (dA aK aV : Nat → Nat) (x0 : Nat) (x1 : Int32) (K : XK) (u : XS) (Post : Int32 → XS → Prop) (h : xw0_size x0 x1 K u Post) (sz : Nat) : Met l yX0_size (ws_ yX0_size cX0_size 2 (Option.some Jvm.ClassFile.FieldType.int)) (jx_rm 2 40 0 0) (jx_Pc D dA aK aV K u sz [.ref x0, .int x1]) (va_Qi (fun (r : Int32) (w : XS) => Post r w) (jx_B D dA K) (AX K sz)) 0 0 (AX K sz) := by
  refine jx_start hfl [.ref x0, .int x1] [(0, .ref x0), (1, .int x1)] (by decide) (Nat.le_of_ble_eq_true rfl) rfl (fun X hX hY hin => ?_)
  unfold xw0_size at h
  refine jj_aload_n hX dX0_size_0 0 rfl 1 rfl ?_
  refine jj_iload_n hX dX0_size_1 1 rfl 2 rfl ?_
  refine jj_i2l hX dX0_size_2 3 rfl ?_
  refine jj_lconst (v := 0) hX dX0_size_3 (by decide) 4 rfl ?_
  refine jj_ldc2 (v := 4) hX dX0_size_4 q1127 7 rfl ?_
  refine kxs_isIn hX XP.keeps q1074 (Nat.le_of_ble_eq_true rfl) (Nat.le_of_ble_eq_true rfl) (Nat.zero_le _) (Nat.zero_le _) (Nat.le_of_ble_eq_true rfl) dX0_size_7 10 rfl h (fun r7 hb7 h => ?_)
  refine jj_if_ne hX dX0_size_10 17 13 (by decide) rfl (fun c10 => ?_) (fun c10 => ?_)
  · have h := h.1 c10
    refine jj_aload_n hX dX0_size_17 0 rfl 18 rfl ?_
    obtain ⟨k18, h⟩ := h
    refine kxw0_whyNotSet hX hY k18 q1111 (Nat.le_of_ble_eq_true rfl) (Nat.le_of_ble_eq_true rfl) (Nat.zero_le _) (Nat.zero_le _) (Nat.le_of_ble_eq_true rfl) dX0_size_18 21 rfl h (fun r18 u18 h => ?_)
    exact txw0_size_B21 hX hY h
  · have h := h.2 c10
    refine jj_iconst hX dX0_size_13 ci_1 14 rfl ?_
    refine jj_goto hX dX0_size_14 21 (by decide) ?_
    exact txw0_size_B21 hX hY h
theorem hd_xw0_size : yX0_size.cls ≠ "java/lang/invoke/MethodHandle" ∧ yX0_size.cls ≠ "java/lang/invoke/VarHandle" ∧ (parseMethodDescriptor yX0_size.desc).map (fun d => d.parameters.length) = some 1 := by decide +kernel
theorem kxw0_size {X : JC} {A : Nat → Prop} {Q : State → Prop} {nL k n pc : Nat} {lv : List (Nat × Value)} {st : List Value} {own : String} {cc : ByteArray} {ret : Option FieldType} {F LL mc ms ix : Nat} {D : va_G} {dA aK aV : Nat → Nat} {K : XK} {u : XS} {x0 : Nat} {x1 : Int32} {Post : Int32 → XS → Prop} (hX : JX X own cc nL ret F LL mc ms) (hY : JY X D dA aK aV A) (h1a : K x0 = (1, 0)) (hlk : (Cond.methodLink own ix yX0_size) ∈ lw_all) (hF : 2 + 1 ≤ F) (hL : 8 + (2 + 11) + 40 ≤ LL) (hk : k ≤ mc) (hk2 : n ≤ ms) (hw : (st.map fun v => v.category).sum ≤ 8) (d : decode cc pc = .ok (.invokevirtual ix, 3)) (q : Nat) (hq : pc + 3 = q) (h : xw0_size x0 x1 K u  Post) (kk : ∀ (r : Int32) (u2 : XS), Post r u2 → JJ X A Q nL (XP D dA A K u2) k n q lv (.int r :: st)) : JJ X A Q nL (XP D dA A K u) k n pc lv (.int x1 :: .ref x0 :: st) :=
  jx_callVi (na := 1) (As := [.int x1]) hX hY jf0 h1a (fun sz => mxw0_size (jj_l X) hY.2.2.2.2 D dA aK aV x0 x1 K u  Post h sz) hlk q1124 q1125 q120 q1126 ⟨rfl, hd_xw0_size⟩ rfl rfl hw hF hL hk hk2 d q hq kk
theorem knxw0_size {X : JC} {A : Nat → Prop} {Q : State → Prop} {nL k n pc : Nat} {lv : List (Nat × Value)} {st : List Value} {own : String} {cc : ByteArray} {ret : Option FieldType} {F LL mc ms ix : Nat} {D : va_G} {dA aK aV : Nat → Nat} {K : XK} {u : XS} {x0 : Nat} {x1 : Int32} {host : String} {Post : Int32 → XS → Prop} (hX : JX X own cc nL ret F LL mc ms) (hY : JY X D dA aK aV A) (h1a : K x0 = (1, 0)) (hlk : (Cond.methodLinkNest own ix yX0_size host) ∈ jx_nest) (hF : 2 + 1 ≤ F) (hL : 8 + (2 + 11) + 40 ≤ LL) (hk : k ≤ mc) (hk2 : n ≤ ms) (hw : (st.map fun v => v.category).sum ≤ 8) (d : decode cc pc = .ok (.invokevirtual ix, 3)) (q : Nat) (hq : pc + 3 = q) (h : xw0_size x0 x1 K u  Post) (kk : ∀ (r : Int32) (u2 : XS), Post r u2 → JJ X A Q nL (XP D dA A K u2) k n q lv (.int r :: st)) : JJ X A Q nL (XP D dA A K u) k n pc lv (.int x1 :: .ref x0 :: st) :=
  jx_callNi (na := 1) (As := [.int x1]) hX hY jf0 h1a (fun sz => mxw0_size (jj_l X) hY.2.2.2.2 D dA aK aV x0 x1 K u  Post h sz) hlk q1124 q1125 q120 q1126 hd_xw0_size rfl rfl hw hF hL hk hk2 d q hq kk
/-- RaisedPress.cell(I)I -/
def xw0_cell (x0 : Nat) (x1 : Int32) (K : XK) (u : XS) (Post : Int32 → XS → Prop) : Prop :=
  K x0 = (1, 0) ∧
  xw0_isSet x0 K u (fun r2 u2 =>
    (r2 = 0 →
      xw0_answer x0 (-1 : Int32) K u2 (fun r47 u47 =>
        Post r47 u47)) ∧
    (¬ r2 = 0 →
      ∃ b15, (xr u2 x0 10) = some b15 ∧
      K b15 = (1, 4) ∧
      ∃ b18, (xr u2 b15 2) = some b18 ∧
      K b18 = (1, 15) ∧
      ∃ b21, (xr u2 b18 1) = some b21 ∧
      ∃ n21, K b21 = (2, n21) ∧
      xs_isIn x1.toInt64 (0 : Int64) ((nI n21) - (1 : Int32)).toInt64 (fun r25 =>
        (r25 = 0 →
          xw0_answer x0 (-1 : Int32) K u2 (fun r47 u47 =>
            Post r47 u47)) ∧
        (¬ r25 = 0 →
          ∃ b35, (xr u2 x0 10) = some b35 ∧
          K b35 = (1, 4) ∧
          ∃ b38, (xr u2 b35 2) = some b38 ∧
          K b38 = (1, 15) ∧
          ∃ b42, (xr u2 b38 1) = some b42 ∧
          ∃ n42, K b42 = (2, n42) ∧
          vp_in x1 n42 ∧
          xw0_answer x0 (xi u2 b42 x1.toNatClampNeg) K u2 (fun r47 u47 =>
            Post r47 u47)))))
set_option maxHeartbeats 4000000 in
set_option maxRecDepth 100000 in
theorem mxw0_cell (l : Launch) (hfl : l.stackTraces = false) (D : va_G) (dA aK aV : Nat → Nat) (x0 : Nat) (x1 : Int32) (K : XK) (u : XS) (Post : Int32 → XS → Prop) (h : xw0_cell x0 x1 K u Post) (sz : Nat) : Met l yX0_cell (ws_ yX0_cell cX0_cell 2 (Option.some Jvm.ClassFile.FieldType.int)) (jx_rm 1 25 0 0) (jx_Pc D dA aK aV K u sz [.ref x0, .int x1]) (va_Qi (fun (r : Int32) (w : XS) => Post r w) (jx_B D dA K) (AX K sz)) 0 0 (AX K sz) := by
  refine jx_start hfl [.ref x0, .int x1] [(0, .ref x0), (1, .int x1)] (by decide) (Nat.le_of_ble_eq_true rfl) rfl (fun X hX hY hin => ?_)
  unfold xw0_cell at h
  refine jj_aload_n hX dX0_cell_0 0 rfl 1 rfl ?_
  refine jj_aload_n hX dX0_cell_1 0 rfl 2 rfl ?_
  obtain ⟨k2, h⟩ := h
  refine kxw0_isSet hX hY k2 q1115 (Nat.le_of_ble_eq_true rfl) (Nat.le_of_ble_eq_true rfl) (Nat.zero_le _) (Nat.zero_le _) (Nat.le_of_ble_eq_true rfl) dX0_cell_2 5 rfl h (fun r2 u2 hb2 h => ?_)
  refine jj_if_eq hX dX0_cell_5 46 8 (by decide) rfl (fun c5 => ?_) (fun c5 => ?_)
  · have h := h.1 c5
    refine jj_iconst hX dX0_cell_46 ci_m1 47 rfl ?_
    refine kxw0_answer hX hY k2 q1077 (Nat.le_of_ble_eq_true rfl) (Nat.le_of_ble_eq_true rfl) (Nat.zero_le _) (Nat.zero_le _) (Nat.le_of_ble_eq_true rfl) dX0_cell_47 50 rfl h (fun r47 u47 h => ?_)
    exact jj_reti (post := (fun (r : Int32) (w : XS) => Post r w)) (u := u47) hX dX0_cell_50 (Nat.le_refl 0) (Nat.le_refl 0) jx_hB h
  · have h := h.2 c5
    refine jj_iload_n hX dX0_cell_8 1 rfl 9 rfl ?_
    refine jj_i2l hX dX0_cell_9 10 rfl ?_
    refine jj_lconst (v := 0) hX dX0_cell_10 (by decide) 11 rfl ?_
    refine jj_aload_n hX dX0_cell_11 0 rfl 12 rfl ?_
    refine xg0_10 hX hY k2 dX0_cell_12 q421 15 rfl ?_
    obtain ⟨b15, g15, h⟩ := h
    refine jj_st (st2 := [.ref b15, .long (0 : Int64), .long x1.toInt64, .ref x0]) (by rw [va_rf_some g15]) ?_
    obtain ⟨k15, h⟩ := h
    refine xgn4_2 hX hY k15 dX0_cell_15 nq319 18 rfl ?_
    obtain ⟨b18, g18, h⟩ := h
    refine jj_st (st2 := [.ref b18, .long (0 : Int64), .long x1.toInt64, .ref x0]) (by rw [va_rf_some g18]) ?_
    obtain ⟨k18, h⟩ := h
    refine xgn15_1 hX hY k18 dX0_cell_18 nq1003 21 rfl ?_
    obtain ⟨b21, g21, h⟩ := h
    refine jj_st (st2 := [.ref b21, .long (0 : Int64), .long x1.toInt64, .ref x0]) (by rw [va_rf_some g21]) ?_
    obtain ⟨n21, k21, h⟩ := h
    refine jx_alen hX hY.1 k21 dX0_cell_21 22 rfl ?_
    refine jj_iconst hX dX0_cell_22 ci_1 23 rfl ?_
    refine jj_isub hX dX0_cell_23 24 rfl ?_
    refine jj_i2l hX dX0_cell_24 25 rfl ?_
    refine kxs_isIn hX XP.keeps q1074 (Nat.le_of_ble_eq_true rfl) (Nat.le_of_ble_eq_true rfl) (Nat.zero_le _) (Nat.zero_le _) (Nat.le_of_ble_eq_true rfl) dX0_cell_25 28 rfl h (fun r25 hb25 h => ?_)
    refine jj_if_eq hX dX0_cell_28 46 31 (by decide) rfl (fun c28 => ?_) (fun c28 => ?_)
    · have h := h.1 c28
      refine jj_iconst hX dX0_cell_46 ci_m1 47 rfl ?_
      refine kxw0_answer hX hY k2 q1077 (Nat.le_of_ble_eq_true rfl) (Nat.le_of_ble_eq_true rfl) (Nat.zero_le _) (Nat.zero_le _) (Nat.le_of_ble_eq_true rfl) dX0_cell_47 50 rfl h (fun r47 u47 h => ?_)
      exact jj_reti (post := (fun (r : Int32) (w : XS) => Post r w)) (u := u47) hX dX0_cell_50 (Nat.le_refl 0) (Nat.le_refl 0) jx_hB h
    · have h := h.2 c28
      refine jj_aload_n hX dX0_cell_31 0 rfl 32 rfl ?_
      refine xg0_10 hX hY k2 dX0_cell_32 q421 35 rfl ?_
      obtain ⟨b35, g35, h⟩ := h
      refine jj_st (st2 := [.ref b35, .ref x0]) (by rw [va_rf_some g35]) ?_
      obtain ⟨k35, h⟩ := h
      refine xgn4_2 hX hY k35 dX0_cell_35 nq319 38 rfl ?_
      obtain ⟨b38, g38, h⟩ := h
      refine jj_st (st2 := [.ref b38, .ref x0]) (by rw [va_rf_some g38]) ?_
      obtain ⟨k38, h⟩ := h
      refine xgn15_1 hX hY k38 dX0_cell_38 nq1003 41 rfl ?_
      refine jj_iload_n hX dX0_cell_41 1 rfl 42 rfl ?_
      obtain ⟨b42, g42, h⟩ := h
      refine jj_st (st2 := [.int x1, .ref b42, .ref x0]) (by rw [va_rf_some g42]) ?_
      obtain ⟨n42, k42, h⟩ := h
      obtain ⟨hi42, h⟩ := h
      refine jx_iald hX hY.1 k42 _ rfl hi42 dX0_cell_42 43 rfl ?_
      refine jj_goto hX dX0_cell_43 47 (by decide) ?_
      refine kxw0_answer hX hY k2 q1077 (Nat.le_of_ble_eq_true rfl) (Nat.le_of_ble_eq_true rfl) (Nat.zero_le _) (Nat.zero_le _) (Nat.le_of_ble_eq_true rfl) dX0_cell_47 50 rfl h (fun r47 u47 h => ?_)
      exact jj_reti (post := (fun (r : Int32) (w : XS) => Post r w)) (u := u47) hX dX0_cell_50 (Nat.le_refl 0) (Nat.le_refl 0) jx_hB h
theorem hd_xw0_cell : yX0_cell.cls ≠ "java/lang/invoke/MethodHandle" ∧ yX0_cell.cls ≠ "java/lang/invoke/VarHandle" ∧ (parseMethodDescriptor yX0_cell.desc).map (fun d => d.parameters.length) = some 1 := by decide +kernel
theorem kxw0_cell {X : JC} {A : Nat → Prop} {Q : State → Prop} {nL k n pc : Nat} {lv : List (Nat × Value)} {st : List Value} {own : String} {cc : ByteArray} {ret : Option FieldType} {F LL mc ms ix : Nat} {D : va_G} {dA aK aV : Nat → Nat} {K : XK} {u : XS} {x0 : Nat} {x1 : Int32} {Post : Int32 → XS → Prop} (hX : JX X own cc nL ret F LL mc ms) (hY : JY X D dA aK aV A) (h1a : K x0 = (1, 0)) (hlk : (Cond.methodLink own ix yX0_cell) ∈ lw_all) (hF : 1 + 1 ≤ F) (hL : 8 + (2 + 11) + 25 ≤ LL) (hk : k ≤ mc) (hk2 : n ≤ ms) (hw : (st.map fun v => v.category).sum ≤ 8) (d : decode cc pc = .ok (.invokevirtual ix, 3)) (q : Nat) (hq : pc + 3 = q) (h : xw0_cell x0 x1 K u  Post) (kk : ∀ (r : Int32) (u2 : XS), Post r u2 → JJ X A Q nL (XP D dA A K u2) k n q lv (.int r :: st)) : JJ X A Q nL (XP D dA A K u) k n pc lv (.int x1 :: .ref x0 :: st) :=
  jx_callVi (na := 1) (As := [.int x1]) hX hY jf0 h1a (fun sz => mxw0_cell (jj_l X) hY.2.2.2.2 D dA aK aV x0 x1 K u  Post h sz) hlk q1137 q1138 q120 q1139 ⟨rfl, hd_xw0_cell⟩ rfl rfl hw hF hL hk hk2 d q hq kk
theorem knxw0_cell {X : JC} {A : Nat → Prop} {Q : State → Prop} {nL k n pc : Nat} {lv : List (Nat × Value)} {st : List Value} {own : String} {cc : ByteArray} {ret : Option FieldType} {F LL mc ms ix : Nat} {D : va_G} {dA aK aV : Nat → Nat} {K : XK} {u : XS} {x0 : Nat} {x1 : Int32} {host : String} {Post : Int32 → XS → Prop} (hX : JX X own cc nL ret F LL mc ms) (hY : JY X D dA aK aV A) (h1a : K x0 = (1, 0)) (hlk : (Cond.methodLinkNest own ix yX0_cell host) ∈ jx_nest) (hF : 1 + 1 ≤ F) (hL : 8 + (2 + 11) + 25 ≤ LL) (hk : k ≤ mc) (hk2 : n ≤ ms) (hw : (st.map fun v => v.category).sum ≤ 8) (d : decode cc pc = .ok (.invokevirtual ix, 3)) (q : Nat) (hq : pc + 3 = q) (h : xw0_cell x0 x1 K u  Post) (kk : ∀ (r : Int32) (u2 : XS), Post r u2 → JJ X A Q nL (XP D dA A K u2) k n q lv (.int r :: st)) : JJ X A Q nL (XP D dA A K u) k n pc lv (.int x1 :: .ref x0 :: st) :=
  jx_callNi (na := 1) (As := [.int x1]) hX hY jf0 h1a (fun sz => mxw0_cell (jj_l X) hY.2.2.2.2 D dA aK aV x0 x1 K u  Post h sz) hlk q1137 q1138 q120 q1139 hd_xw0_cell rfl rfl hw hF hL hk hk2 d q hq kk
/-- RaisedPress.isLine(I)Z -/
def xw0_isLine (x0 : Nat) (x1 : Int32) (K : XK) (u : XS) (Post : Int32 → XS → Prop) : Prop :=
  K x0 = (1, 0) ∧
  xw0_isSet x0 K u (fun r1 u1 =>
    (r1 = 0 →
      Post (0 : Int32) u1) ∧
    (¬ r1 = 0 →
      ∃ b14, (xr u1 x0 10) = some b14 ∧
      K b14 = (1, 4) ∧
      ∃ b17, (xr u1 b14 2) = some b17 ∧
      K b17 = (1, 15) ∧
      xw15_lines b17 K u1 (fun r17 u17 =>
        xs_isIn x1.toInt64 (0 : Int64) (r17 - (1 : Int32)).toInt64 (fun r23 =>
          (r23 = 0 →
            Post (0 : Int32) u17) ∧
          (¬ r23 = 0 →
            Post (1 : Int32) u17)))))
set_option maxHeartbeats 4000000 in
set_option maxRecDepth 100000 in
theorem mxw0_isLine (l : Launch) (hfl : l.stackTraces = false) (D : va_G) (dA aK aV : Nat → Nat) (x0 : Nat) (x1 : Int32) (K : XK) (u : XS) (Post : Int32 → XS → Prop) (h : xw0_isLine x0 x1 K u Post) (sz : Nat) : Met l yX0_isLine (ws_ yX0_isLine cX0_isLine 2 (Option.some Jvm.ClassFile.FieldType.boolean)) (jx_rm 1 25 0 0) (jx_Pc D dA aK aV K u sz [.ref x0, .int x1]) (va_Qi (fun (r : Int32) (w : XS) => Post r w ∧ jj_z r) (jx_B D dA K) (AX K sz)) 0 0 (AX K sz) := by
  refine jx_start hfl [.ref x0, .int x1] [(0, .ref x0), (1, .int x1)] (by decide) (Nat.le_of_ble_eq_true rfl) rfl (fun X hX hY hin => ?_)
  unfold xw0_isLine at h
  refine jj_aload_n hX dX0_isLine_0 0 rfl 1 rfl ?_
  obtain ⟨k1, h⟩ := h
  refine kxw0_isSet hX hY k1 q1115 (Nat.le_of_ble_eq_true rfl) (Nat.le_of_ble_eq_true rfl) (Nat.zero_le _) (Nat.zero_le _) (Nat.le_of_ble_eq_true rfl) dX0_isLine_1 4 rfl h (fun r1 u1 hb1 h => ?_)
  refine jj_if_eq hX dX0_isLine_4 33 7 (by decide) rfl (fun c4 => ?_) (fun c4 => ?_)
  · have h := h.1 c4
    refine jj_iconst hX dX0_isLine_33 ci_0 34 rfl ?_
    exact jj_retz (post := (fun (r : Int32) (w : XS) => Post r w)) (u := u1) hX dX0_isLine_34 (Nat.le_refl 0) (Nat.le_refl 0) jx_hB jj_z0 h
  · have h := h.2 c4
    refine jj_iload_n hX dX0_isLine_7 1 rfl 8 rfl ?_
    refine jj_i2l hX dX0_isLine_8 9 rfl ?_
    refine jj_lconst (v := 0) hX dX0_isLine_9 (by decide) 10 rfl ?_
    refine jj_aload_n hX dX0_isLine_10 0 rfl 11 rfl ?_
    refine xg0_10 hX hY k1 dX0_isLine_11 q421 14 rfl ?_
    obtain ⟨b14, g14, h⟩ := h
    refine jj_st (st2 := [.ref b14, .long (0 : Int64), .long x1.toInt64]) (by rw [va_rf_some g14]) ?_
    obtain ⟨k14, h⟩ := h
    refine xgn4_2 hX hY k14 dX0_isLine_14 nq319 17 rfl ?_
    obtain ⟨b17, g17, h⟩ := h
    refine jj_st (st2 := [.ref b17, .long (0 : Int64), .long x1.toInt64]) (by rw [va_rf_some g17]) ?_
    obtain ⟨k17, h⟩ := h
    refine kxw15_lines hX hY k17 q1128 (Nat.le_of_ble_eq_true rfl) (Nat.le_of_ble_eq_true rfl) (Nat.zero_le _) (Nat.zero_le _) (Nat.le_of_ble_eq_true rfl) dX0_isLine_17 20 rfl h (fun r17 u17 h => ?_)
    refine jj_iconst hX dX0_isLine_20 ci_1 21 rfl ?_
    refine jj_isub hX dX0_isLine_21 22 rfl ?_
    refine jj_i2l hX dX0_isLine_22 23 rfl ?_
    refine kxs_isIn hX XP.keeps q1074 (Nat.le_of_ble_eq_true rfl) (Nat.le_of_ble_eq_true rfl) (Nat.zero_le _) (Nat.zero_le _) (Nat.le_of_ble_eq_true rfl) dX0_isLine_23 26 rfl h (fun r23 hb23 h => ?_)
    refine jj_if_eq hX dX0_isLine_26 33 29 (by decide) rfl (fun c26 => ?_) (fun c26 => ?_)
    · have h := h.1 c26
      refine jj_iconst hX dX0_isLine_33 ci_0 34 rfl ?_
      exact jj_retz (post := (fun (r : Int32) (w : XS) => Post r w)) (u := u17) hX dX0_isLine_34 (Nat.le_refl 0) (Nat.le_refl 0) jx_hB jj_z0 h
    · have h := h.2 c26
      refine jj_iconst hX dX0_isLine_29 ci_1 30 rfl ?_
      refine jj_goto hX dX0_isLine_30 34 (by decide) ?_
      exact jj_retz (post := (fun (r : Int32) (w : XS) => Post r w)) (u := u17) hX dX0_isLine_34 (Nat.le_refl 0) (Nat.le_refl 0) jx_hB jj_z1 h
theorem hd_xw0_isLine : yX0_isLine.cls ≠ "java/lang/invoke/MethodHandle" ∧ yX0_isLine.cls ≠ "java/lang/invoke/VarHandle" ∧ (parseMethodDescriptor yX0_isLine.desc).map (fun d => d.parameters.length) = some 1 := by decide +kernel
theorem kxw0_isLine {X : JC} {A : Nat → Prop} {Q : State → Prop} {nL k n pc : Nat} {lv : List (Nat × Value)} {st : List Value} {own : String} {cc : ByteArray} {ret : Option FieldType} {F LL mc ms ix : Nat} {D : va_G} {dA aK aV : Nat → Nat} {K : XK} {u : XS} {x0 : Nat} {x1 : Int32} {Post : Int32 → XS → Prop} (hX : JX X own cc nL ret F LL mc ms) (hY : JY X D dA aK aV A) (h1a : K x0 = (1, 0)) (hlk : (Cond.methodLink own ix yX0_isLine) ∈ lw_all) (hF : 1 + 1 ≤ F) (hL : 8 + (2 + 11) + 25 ≤ LL) (hk : k ≤ mc) (hk2 : n ≤ ms) (hw : (st.map fun v => v.category).sum ≤ 8) (d : decode cc pc = .ok (.invokevirtual ix, 3)) (q : Nat) (hq : pc + 3 = q) (h : xw0_isLine x0 x1 K u  Post) (kk : ∀ (r : Int32) (u2 : XS), jj_z r → Post r u2 → JJ X A Q nL (XP D dA A K u2) k n q lv (.int r :: st)) : JJ X A Q nL (XP D dA A K u) k n pc lv (.int x1 :: .ref x0 :: st) :=
  jx_callVz (na := 1) (As := [.int x1]) hX hY jf0 h1a (fun sz => mxw0_isLine (jj_l X) hY.2.2.2.2 D dA aK aV x0 x1 K u  Post h sz) hlk q1146 qs39 q120 q1147 ⟨rfl, hd_xw0_isLine⟩ rfl rfl hw hF hL hk hk2 d q hq kk
theorem knxw0_isLine {X : JC} {A : Nat → Prop} {Q : State → Prop} {nL k n pc : Nat} {lv : List (Nat × Value)} {st : List Value} {own : String} {cc : ByteArray} {ret : Option FieldType} {F LL mc ms ix : Nat} {D : va_G} {dA aK aV : Nat → Nat} {K : XK} {u : XS} {x0 : Nat} {x1 : Int32} {host : String} {Post : Int32 → XS → Prop} (hX : JX X own cc nL ret F LL mc ms) (hY : JY X D dA aK aV A) (h1a : K x0 = (1, 0)) (hlk : (Cond.methodLinkNest own ix yX0_isLine host) ∈ jx_nest) (hF : 1 + 1 ≤ F) (hL : 8 + (2 + 11) + 25 ≤ LL) (hk : k ≤ mc) (hk2 : n ≤ ms) (hw : (st.map fun v => v.category).sum ≤ 8) (d : decode cc pc = .ok (.invokevirtual ix, 3)) (q : Nat) (hq : pc + 3 = q) (h : xw0_isLine x0 x1 K u  Post) (kk : ∀ (r : Int32) (u2 : XS), jj_z r → Post r u2 → JJ X A Q nL (XP D dA A K u2) k n q lv (.int r :: st)) : JJ X A Q nL (XP D dA A K u) k n pc lv (.int x1 :: .ref x0 :: st) :=
  jx_callNz (na := 1) (As := [.int x1]) hX hY jf0 h1a (fun sz => mxw0_isLine (jj_l X) hY.2.2.2.2 D dA aK aV x0 x1 K u  Post h sz) hlk q1146 qs39 q120 q1147 hd_xw0_isLine rfl rfl hw hF hL hk hk2 d q hq kk
/-- RaisedPress$Writing.lineMany(I)I -/
def xw15_lineMany (x0 : Nat) (x1 : Int32) (K : XK) (u : XS) (Post : Int32 → XS → Prop) : Prop :=
  K x0 = (1, 15) ∧
  ∃ b7, (xr u x0 8) = some b7 ∧
  ∃ n7, K b7 = (2, n7) ∧
  vp_in (x1 + (1 : Int32)) n7 ∧
  ∃ b13, (xr u x0 8) = some b13 ∧
  ∃ n13, K b13 = (2, n13) ∧
  vp_in x1 n13 ∧
  Post ((xi u b7 (x1 + (1 : Int32)).toNatClampNeg) - (xi u b13 x1.toNatClampNeg)) u
set_option maxHeartbeats 4000000 in
set_option maxRecDepth 100000 in
theorem mxw15_lineMany (l : Launch) (hfl : l.stackTraces = false) (D : va_G) (dA aK aV : Nat → Nat) (x0 : Nat) (x1 : Int32) (K : XK) (u : XS) (Post : Int32 → XS → Prop) (h : xw15_lineMany x0 x1 K u Post) (sz : Nat) : Met l yX15_lineMany (ws_ yX15_lineMany cX15_lineMany 2 (Option.some Jvm.ClassFile.FieldType.int)) (jx_rm 0 0 0 0) (jx_Pc D dA aK aV K u sz [.ref x0, .int x1]) (va_Qi (fun (r : Int32) (w : XS) => Post r w) (jx_B D dA K) (AX K sz)) 0 0 (AX K sz) := by
  refine jx_start hfl [.ref x0, .int x1] [(0, .ref x0), (1, .int x1)] (by decide) (Nat.le_of_ble_eq_true rfl) rfl (fun X hX hY hin => ?_)
  unfold xw15_lineMany at h
  refine jj_aload_n hX dX15_lineMany_0 0 rfl 1 rfl ?_
  obtain ⟨k1, h⟩ := h
  refine xg15_8 hX hY k1 dX15_lineMany_1 q1022 4 rfl ?_
  refine jj_iload_n hX dX15_lineMany_4 1 rfl 5 rfl ?_
  refine jj_iconst hX dX15_lineMany_5 ci_1 6 rfl ?_
  refine jj_iadd hX dX15_lineMany_6 7 rfl ?_
  obtain ⟨b7, g7, h⟩ := h
  refine jj_st (st2 := [.int (x1 + (1 : Int32)), .ref b7]) (by rw [va_rf_some g7]) ?_
  obtain ⟨n7, k7, h⟩ := h
  obtain ⟨hi7, h⟩ := h
  refine jx_iald hX hY.1 k7 _ rfl hi7 dX15_lineMany_7 8 rfl ?_
  refine jj_aload_n hX dX15_lineMany_8 0 rfl 9 rfl ?_
  refine xg15_8 hX hY k1 dX15_lineMany_9 q1022 12 rfl ?_
  refine jj_iload_n hX dX15_lineMany_12 1 rfl 13 rfl ?_
  obtain ⟨b13, g13, h⟩ := h
  refine jj_st (st2 := [.int x1, .ref b13, .int (xi u b7 (x1 + (1 : Int32)).toNatClampNeg)]) (by rw [va_rf_some g13]) ?_
  obtain ⟨n13, k13, h⟩ := h
  obtain ⟨hi13, h⟩ := h
  refine jx_iald hX hY.1 k13 _ rfl hi13 dX15_lineMany_13 14 rfl ?_
  refine jj_isub hX dX15_lineMany_14 15 rfl ?_
  exact jj_reti (post := (fun (r : Int32) (w : XS) => Post r w)) (u := u) hX dX15_lineMany_15 (Nat.le_refl 0) (Nat.le_refl 0) jx_hB h
theorem hd_xw15_lineMany : yX15_lineMany.cls ≠ "java/lang/invoke/MethodHandle" ∧ yX15_lineMany.cls ≠ "java/lang/invoke/VarHandle" ∧ (parseMethodDescriptor yX15_lineMany.desc).map (fun d => d.parameters.length) = some 1 := by decide +kernel
theorem kxw15_lineMany {X : JC} {A : Nat → Prop} {Q : State → Prop} {nL k n pc : Nat} {lv : List (Nat × Value)} {st : List Value} {own : String} {cc : ByteArray} {ret : Option FieldType} {F LL mc ms ix : Nat} {D : va_G} {dA aK aV : Nat → Nat} {K : XK} {u : XS} {x0 : Nat} {x1 : Int32} {Post : Int32 → XS → Prop} (hX : JX X own cc nL ret F LL mc ms) (hY : JY X D dA aK aV A) (h1a : K x0 = (1, 15)) (hlk : (Cond.methodLink own ix yX15_lineMany) ∈ lw_all) (hF : 0 + 1 ≤ F) (hL : 8 + (2 + 11) + 0 ≤ LL) (hk : k ≤ mc) (hk2 : n ≤ ms) (hw : (st.map fun v => v.category).sum ≤ 8) (d : decode cc pc = .ok (.invokevirtual ix, 3)) (q : Nat) (hq : pc + 3 = q) (h : xw15_lineMany x0 x1 K u  Post) (kk : ∀ (r : Int32) (u2 : XS), Post r u2 → JJ X A Q nL (XP D dA A K u2) k n q lv (.int r :: st)) : JJ X A Q nL (XP D dA A K u) k n pc lv (.int x1 :: .ref x0 :: st) :=
  jx_callVi (na := 1) (As := [.int x1]) hX hY jf15 h1a (fun sz => mxw15_lineMany (jj_l X) hY.2.2.2.2 D dA aK aV x0 x1 K u  Post h sz) hlk q1149 q1150 q147 q1151 ⟨rfl, hd_xw15_lineMany⟩ rfl rfl hw hF hL hk hk2 d q hq kk
theorem knxw15_lineMany {X : JC} {A : Nat → Prop} {Q : State → Prop} {nL k n pc : Nat} {lv : List (Nat × Value)} {st : List Value} {own : String} {cc : ByteArray} {ret : Option FieldType} {F LL mc ms ix : Nat} {D : va_G} {dA aK aV : Nat → Nat} {K : XK} {u : XS} {x0 : Nat} {x1 : Int32} {host : String} {Post : Int32 → XS → Prop} (hX : JX X own cc nL ret F LL mc ms) (hY : JY X D dA aK aV A) (h1a : K x0 = (1, 15)) (hlk : (Cond.methodLinkNest own ix yX15_lineMany host) ∈ jx_nest) (hF : 0 + 1 ≤ F) (hL : 8 + (2 + 11) + 0 ≤ LL) (hk : k ≤ mc) (hk2 : n ≤ ms) (hw : (st.map fun v => v.category).sum ≤ 8) (d : decode cc pc = .ok (.invokevirtual ix, 3)) (q : Nat) (hq : pc + 3 = q) (h : xw15_lineMany x0 x1 K u  Post) (kk : ∀ (r : Int32) (u2 : XS), Post r u2 → JJ X A Q nL (XP D dA A K u2) k n q lv (.int r :: st)) : JJ X A Q nL (XP D dA A K u) k n pc lv (.int x1 :: .ref x0 :: st) :=
  jx_callNi (na := 1) (As := [.int x1]) hX hY jf15 h1a (fun sz => mxw15_lineMany (jj_l X) hY.2.2.2.2 D dA aK aV x0 x1 K u  Post h sz) hlk q1149 q1150 q147 q1151 hd_xw15_lineMany rfl rfl hw hF hL hk hk2 d q hq kk
/-- RaisedPress.line(I)I -/
def xw0_line (x0 : Nat) (x1 : Int32) (K : XK) (u : XS) (Post : Int32 → XS → Prop) : Prop :=
  K x0 = (1, 0) ∧
  xw0_isLine x0 x1 K u (fun r3 u3 =>
    (r3 = 0 →
      xw0_answer x0 (-1 : Int32) K u3 (fun r24 u24 =>
        Post r24 u24)) ∧
    (¬ r3 = 0 →
      ∃ b13, (xr u3 x0 10) = some b13 ∧
      K b13 = (1, 4) ∧
      ∃ b17, (xr u3 b13 2) = some b17 ∧
      K b17 = (1, 15) ∧
      xw15_lineMany b17 x1 K u3 (fun r17 u17 =>
        xw0_answer x0 r17 K u17 (fun r24 u24 =>
          Post r24 u24))))
set_option maxHeartbeats 4000000 in
set_option maxRecDepth 100000 in
theorem mxw0_line (l : Launch) (hfl : l.stackTraces = false) (D : va_G) (dA aK aV : Nat → Nat) (x0 : Nat) (x1 : Int32) (K : XK) (u : XS) (Post : Int32 → XS → Prop) (h : xw0_line x0 x1 K u Post) (sz : Nat) : Met l yX0_line (ws_ yX0_line cX0_line 2 (Option.some Jvm.ClassFile.FieldType.int)) (jx_rm 2 46 0 0) (jx_Pc D dA aK aV K u sz [.ref x0, .int x1]) (va_Qi (fun (r : Int32) (w : XS) => Post r w) (jx_B D dA K) (AX K sz)) 0 0 (AX K sz) := by
  refine jx_start hfl [.ref x0, .int x1] [(0, .ref x0), (1, .int x1)] (by decide) (Nat.le_of_ble_eq_true rfl) rfl (fun X hX hY hin => ?_)
  unfold xw0_line at h
  refine jj_aload_n hX dX0_line_0 0 rfl 1 rfl ?_
  refine jj_aload_n hX dX0_line_1 0 rfl 2 rfl ?_
  refine jj_iload_n hX dX0_line_2 1 rfl 3 rfl ?_
  obtain ⟨k3, h⟩ := h
  refine kxw0_isLine hX hY k3 q1144 (Nat.le_of_ble_eq_true rfl) (Nat.le_of_ble_eq_true rfl) (Nat.zero_le _) (Nat.zero_le _) (Nat.le_of_ble_eq_true rfl) dX0_line_3 6 rfl h (fun r3 u3 hb3 h => ?_)
  refine jj_if_eq hX dX0_line_6 23 9 (by decide) rfl (fun c6 => ?_) (fun c6 => ?_)
  · have h := h.1 c6
    refine jj_iconst hX dX0_line_23 ci_m1 24 rfl ?_
    refine kxw0_answer hX hY k3 q1077 (Nat.le_of_ble_eq_true rfl) (Nat.le_of_ble_eq_true rfl) (Nat.zero_le _) (Nat.zero_le _) (Nat.le_of_ble_eq_true rfl) dX0_line_24 27 rfl h (fun r24 u24 h => ?_)
    exact jj_reti (post := (fun (r : Int32) (w : XS) => Post r w)) (u := u24) hX dX0_line_27 (Nat.le_refl 0) (Nat.le_refl 0) jx_hB h
  · have h := h.2 c6
    refine jj_aload_n hX dX0_line_9 0 rfl 10 rfl ?_
    refine xg0_10 hX hY k3 dX0_line_10 q421 13 rfl ?_
    obtain ⟨b13, g13, h⟩ := h
    refine jj_st (st2 := [.ref b13, .ref x0]) (by rw [va_rf_some g13]) ?_
    obtain ⟨k13, h⟩ := h
    refine xgn4_2 hX hY k13 dX0_line_13 nq319 16 rfl ?_
    refine jj_iload_n hX dX0_line_16 1 rfl 17 rfl ?_
    obtain ⟨b17, g17, h⟩ := h
    refine jj_st (st2 := [.int x1, .ref b17, .ref x0]) (by rw [va_rf_some g17]) ?_
    obtain ⟨k17, h⟩ := h
    refine kxw15_lineMany hX hY k17 q1148 (Nat.le_of_ble_eq_true rfl) (Nat.le_of_ble_eq_true rfl) (Nat.zero_le _) (Nat.zero_le _) (Nat.le_of_ble_eq_true rfl) dX0_line_17 20 rfl h (fun r17 u17 h => ?_)
    refine jj_goto hX dX0_line_20 24 (by decide) ?_
    refine kxw0_answer hX hY k3 q1077 (Nat.le_of_ble_eq_true rfl) (Nat.le_of_ble_eq_true rfl) (Nat.zero_le _) (Nat.zero_le _) (Nat.le_of_ble_eq_true rfl) dX0_line_24 27 rfl h (fun r24 u24 h => ?_)
    exact jj_reti (post := (fun (r : Int32) (w : XS) => Post r w)) (u := u24) hX dX0_line_27 (Nat.le_refl 0) (Nat.le_refl 0) jx_hB h
theorem hd_xw0_line : yX0_line.cls ≠ "java/lang/invoke/MethodHandle" ∧ yX0_line.cls ≠ "java/lang/invoke/VarHandle" ∧ (parseMethodDescriptor yX0_line.desc).map (fun d => d.parameters.length) = some 1 := by decide +kernel
theorem kxw0_line {X : JC} {A : Nat → Prop} {Q : State → Prop} {nL k n pc : Nat} {lv : List (Nat × Value)} {st : List Value} {own : String} {cc : ByteArray} {ret : Option FieldType} {F LL mc ms ix : Nat} {D : va_G} {dA aK aV : Nat → Nat} {K : XK} {u : XS} {x0 : Nat} {x1 : Int32} {Post : Int32 → XS → Prop} (hX : JX X own cc nL ret F LL mc ms) (hY : JY X D dA aK aV A) (h1a : K x0 = (1, 0)) (hlk : (Cond.methodLink own ix yX0_line) ∈ lw_all) (hF : 2 + 1 ≤ F) (hL : 8 + (2 + 11) + 46 ≤ LL) (hk : k ≤ mc) (hk2 : n ≤ ms) (hw : (st.map fun v => v.category).sum ≤ 8) (d : decode cc pc = .ok (.invokevirtual ix, 3)) (q : Nat) (hq : pc + 3 = q) (h : xw0_line x0 x1 K u  Post) (kk : ∀ (r : Int32) (u2 : XS), Post r u2 → JJ X A Q nL (XP D dA A K u2) k n q lv (.int r :: st)) : JJ X A Q nL (XP D dA A K u) k n pc lv (.int x1 :: .ref x0 :: st) :=
  jx_callVi (na := 1) (As := [.int x1]) hX hY jf0 h1a (fun sz => mxw0_line (jj_l X) hY.2.2.2.2 D dA aK aV x0 x1 K u  Post h sz) hlk q1141 q1142 q120 q1143 ⟨rfl, hd_xw0_line⟩ rfl rfl hw hF hL hk hk2 d q hq kk
theorem knxw0_line {X : JC} {A : Nat → Prop} {Q : State → Prop} {nL k n pc : Nat} {lv : List (Nat × Value)} {st : List Value} {own : String} {cc : ByteArray} {ret : Option FieldType} {F LL mc ms ix : Nat} {D : va_G} {dA aK aV : Nat → Nat} {K : XK} {u : XS} {x0 : Nat} {x1 : Int32} {host : String} {Post : Int32 → XS → Prop} (hX : JX X own cc nL ret F LL mc ms) (hY : JY X D dA aK aV A) (h1a : K x0 = (1, 0)) (hlk : (Cond.methodLinkNest own ix yX0_line host) ∈ jx_nest) (hF : 2 + 1 ≤ F) (hL : 8 + (2 + 11) + 46 ≤ LL) (hk : k ≤ mc) (hk2 : n ≤ ms) (hw : (st.map fun v => v.category).sum ≤ 8) (d : decode cc pc = .ok (.invokevirtual ix, 3)) (q : Nat) (hq : pc + 3 = q) (h : xw0_line x0 x1 K u  Post) (kk : ∀ (r : Int32) (u2 : XS), Post r u2 → JJ X A Q nL (XP D dA A K u2) k n q lv (.int r :: st)) : JJ X A Q nL (XP D dA A K u) k n pc lv (.int x1 :: .ref x0 :: st) :=
  jx_callNi (na := 1) (As := [.int x1]) hX hY jf0 h1a (fun sz => mxw0_line (jj_l X) hY.2.2.2.2 D dA aK aV x0 x1 K u  Post h sz) hlk q1141 q1142 q120 q1143 hd_xw0_line rfl rfl hw hF hL hk hk2 d q hq kk
/-- RaisedPress.lineAt(II)I -/
def xw0_lineAt (x0 : Nat) (x1 : Int32) (x2 : Int32) (K : XK) (u : XS) (Post : Int32 → XS → Prop) : Prop :=
  K x0 = (1, 0) ∧
  xw0_isLine x0 x1 K u (fun r3 u3 =>
    (r3 = 0 →
      xw0_answer x0 (-1 : Int32) K u3 (fun r61 u61 =>
        Post r61 u61)) ∧
    (¬ r3 = 0 →
      ∃ b16, (xr u3 x0 10) = some b16 ∧
      K b16 = (1, 4) ∧
      ∃ b20, (xr u3 b16 2) = some b20 ∧
      K b20 = (1, 15) ∧
      xw15_lineMany b20 x1 K u3 (fun r20 u20 =>
        xs_isIn x2.toInt64 (0 : Int64) (r20 - (1 : Int32)).toInt64 (fun r26 =>
          (r26 = 0 →
            xw0_answer x0 (-1 : Int32) K u20 (fun r61 u61 =>
              Post r61 u61)) ∧
          (¬ r26 = 0 →
            ∃ b36, (xr u20 x0 10) = some b36 ∧
            K b36 = (1, 4) ∧
            ∃ b39, (xr u20 b36 2) = some b39 ∧
            K b39 = (1, 15) ∧
            ∃ b46, (xr u20 x0 10) = some b46 ∧
            K b46 = (1, 4) ∧
            ∃ b49, (xr u20 b46 2) = some b49 ∧
            K b49 = (1, 15) ∧
            ∃ b53, (xr u20 b49 8) = some b53 ∧
            ∃ n53, K b53 = (2, n53) ∧
            vp_in x1 n53 ∧
            ∃ b56, (xr u20 b39 7) = some b56 ∧
            ∃ n56, K b56 = (2, n56) ∧
            vp_in ((xi u20 b53 x1.toNatClampNeg) + x2) n56 ∧
            xw0_answer x0 (xi u20 b56 ((xi u20 b53 x1.toNatClampNeg) + x2).toNatClampNeg) K u20 (fun r61 u61 =>
              Post r61 u61))))))
set_option maxHeartbeats 4000000 in
set_option maxRecDepth 100000 in
theorem mxw0_lineAt (l : Launch) (hfl : l.stackTraces = false) (D : va_G) (dA aK aV : Nat → Nat) (x0 : Nat) (x1 : Int32) (x2 : Int32) (K : XK) (u : XS) (Post : Int32 → XS → Prop) (h : xw0_lineAt x0 x1 x2 K u Post) (sz : Nat) : Met l yX0_lineAt (ws_ yX0_lineAt cX0_lineAt 3 (Option.some Jvm.ClassFile.FieldType.int)) (jx_rm 2 46 0 0) (jx_Pc D dA aK aV K u sz [.ref x0, .int x1, .int x2]) (va_Qi (fun (r : Int32) (w : XS) => Post r w) (jx_B D dA K) (AX K sz)) 0 0 (AX K sz) := by
  refine jx_start hfl [.ref x0, .int x1, .int x2] [(0, .ref x0), (1, .int x1), (2, .int x2)] (by decide) (Nat.le_of_ble_eq_true rfl) rfl (fun X hX hY hin => ?_)
  unfold xw0_lineAt at h
  refine jj_aload_n hX dX0_lineAt_0 0 rfl 1 rfl ?_
  refine jj_aload_n hX dX0_lineAt_1 0 rfl 2 rfl ?_
  refine jj_iload_n hX dX0_lineAt_2 1 rfl 3 rfl ?_
  obtain ⟨k3, h⟩ := h
  refine kxw0_isLine hX hY k3 q1144 (Nat.le_of_ble_eq_true rfl) (Nat.le_of_ble_eq_true rfl) (Nat.zero_le _) (Nat.zero_le _) (Nat.le_of_ble_eq_true rfl) dX0_lineAt_3 6 rfl h (fun r3 u3 hb3 h => ?_)
  refine jj_if_eq hX dX0_lineAt_6 60 9 (by decide) rfl (fun c6 => ?_) (fun c6 => ?_)
  · have h := h.1 c6
    refine jj_iconst hX dX0_lineAt_60 ci_m1 61 rfl ?_
    refine kxw0_answer hX hY k3 q1077 (Nat.le_of_ble_eq_true rfl) (Nat.le_of_ble_eq_true rfl) (Nat.zero_le _) (Nat.zero_le _) (Nat.le_of_ble_eq_true rfl) dX0_lineAt_61 64 rfl h (fun r61 u61 h => ?_)
    exact jj_reti (post := (fun (r : Int32) (w : XS) => Post r w)) (u := u61) hX dX0_lineAt_64 (Nat.le_refl 0) (Nat.le_refl 0) jx_hB h
  · have h := h.2 c6
    refine jj_iload_n hX dX0_lineAt_9 2 rfl 10 rfl ?_
    refine jj_i2l hX dX0_lineAt_10 11 rfl ?_
    refine jj_lconst (v := 0) hX dX0_lineAt_11 (by decide) 12 rfl ?_
    refine jj_aload_n hX dX0_lineAt_12 0 rfl 13 rfl ?_
    refine xg0_10 hX hY k3 dX0_lineAt_13 q421 16 rfl ?_
    obtain ⟨b16, g16, h⟩ := h
    refine jj_st (st2 := [.ref b16, .long (0 : Int64), .long x2.toInt64, .ref x0]) (by rw [va_rf_some g16]) ?_
    obtain ⟨k16, h⟩ := h
    refine xgn4_2 hX hY k16 dX0_lineAt_16 nq319 19 rfl ?_
    refine jj_iload_n hX dX0_lineAt_19 1 rfl 20 rfl ?_
    obtain ⟨b20, g20, h⟩ := h
    refine jj_st (st2 := [.int x1, .ref b20, .long (0 : Int64), .long x2.toInt64, .ref x0]) (by rw [va_rf_some g20]) ?_
    obtain ⟨k20, h⟩ := h
    refine kxw15_lineMany hX hY k20 q1148 (Nat.le_of_ble_eq_true rfl) (Nat.le_of_ble_eq_true rfl) (Nat.zero_le _) (Nat.zero_le _) (Nat.le_of_ble_eq_true rfl) dX0_lineAt_20 23 rfl h (fun r20 u20 h => ?_)
    refine jj_iconst hX dX0_lineAt_23 ci_1 24 rfl ?_
    refine jj_isub hX dX0_lineAt_24 25 rfl ?_
    refine jj_i2l hX dX0_lineAt_25 26 rfl ?_
    refine kxs_isIn hX XP.keeps q1074 (Nat.le_of_ble_eq_true rfl) (Nat.le_of_ble_eq_true rfl) (Nat.zero_le _) (Nat.zero_le _) (Nat.le_of_ble_eq_true rfl) dX0_lineAt_26 29 rfl h (fun r26 hb26 h => ?_)
    refine jj_if_eq hX dX0_lineAt_29 60 32 (by decide) rfl (fun c29 => ?_) (fun c29 => ?_)
    · have h := h.1 c29
      refine jj_iconst hX dX0_lineAt_60 ci_m1 61 rfl ?_
      refine kxw0_answer hX hY k3 q1077 (Nat.le_of_ble_eq_true rfl) (Nat.le_of_ble_eq_true rfl) (Nat.zero_le _) (Nat.zero_le _) (Nat.le_of_ble_eq_true rfl) dX0_lineAt_61 64 rfl h (fun r61 u61 h => ?_)
      exact jj_reti (post := (fun (r : Int32) (w : XS) => Post r w)) (u := u61) hX dX0_lineAt_64 (Nat.le_refl 0) (Nat.le_refl 0) jx_hB h
    · have h := h.2 c29
      refine jj_aload_n hX dX0_lineAt_32 0 rfl 33 rfl ?_
      refine xg0_10 hX hY k3 dX0_lineAt_33 q421 36 rfl ?_
      obtain ⟨b36, g36, h⟩ := h
      refine jj_st (st2 := [.ref b36, .ref x0]) (by rw [va_rf_some g36]) ?_
      obtain ⟨k36, h⟩ := h
      refine xgn4_2 hX hY k36 dX0_lineAt_36 nq319 39 rfl ?_
      obtain ⟨b39, g39, h⟩ := h
      refine jj_st (st2 := [.ref b39, .ref x0]) (by rw [va_rf_some g39]) ?_
      obtain ⟨k39, h⟩ := h
      refine xgn15_7 hX hY k39 dX0_lineAt_39 nq1021 42 rfl ?_
      refine jj_aload_n hX dX0_lineAt_42 0 rfl 43 rfl ?_
      refine xg0_10 hX hY k3 dX0_lineAt_43 q421 46 rfl ?_
      obtain ⟨b46, g46, h⟩ := h
      refine jj_st (st2 := [.ref b46, va_rf (xr u20 b39 7), .ref x0]) (by rw [va_rf_some g46]) ?_
      obtain ⟨k46, h⟩ := h
      refine xgn4_2 hX hY k46 dX0_lineAt_46 nq319 49 rfl ?_
      obtain ⟨b49, g49, h⟩ := h
      refine jj_st (st2 := [.ref b49, va_rf (xr u20 b39 7), .ref x0]) (by rw [va_rf_some g49]) ?_
      obtain ⟨k49, h⟩ := h
      refine xgn15_8 hX hY k49 dX0_lineAt_49 nq1024 52 rfl ?_
      refine jj_iload_n hX dX0_lineAt_52 1 rfl 53 rfl ?_
      obtain ⟨b53, g53, h⟩ := h
      refine jj_st (st2 := [.int x1, .ref b53, va_rf (xr u20 b39 7), .ref x0]) (by rw [va_rf_some g53]) ?_
      obtain ⟨n53, k53, h⟩ := h
      obtain ⟨hi53, h⟩ := h
      refine jx_iald hX hY.1 k53 _ rfl hi53 dX0_lineAt_53 54 rfl ?_
      refine jj_iload_n hX dX0_lineAt_54 2 rfl 55 rfl ?_
      refine jj_iadd hX dX0_lineAt_55 56 rfl ?_
      obtain ⟨b56, g56, h⟩ := h
      refine jj_st (st2 := [.int ((xi u20 b53 x1.toNatClampNeg) + x2), .ref b56, .ref x0]) (by rw [va_rf_some g56]) ?_
      obtain ⟨n56, k56, h⟩ := h
      obtain ⟨hi56, h⟩ := h
      refine jx_iald hX hY.1 k56 _ rfl hi56 dX0_lineAt_56 57 rfl ?_
      refine jj_goto hX dX0_lineAt_57 61 (by decide) ?_
      refine kxw0_answer hX hY k3 q1077 (Nat.le_of_ble_eq_true rfl) (Nat.le_of_ble_eq_true rfl) (Nat.zero_le _) (Nat.zero_le _) (Nat.le_of_ble_eq_true rfl) dX0_lineAt_61 64 rfl h (fun r61 u61 h => ?_)
      exact jj_reti (post := (fun (r : Int32) (w : XS) => Post r w)) (u := u61) hX dX0_lineAt_64 (Nat.le_refl 0) (Nat.le_refl 0) jx_hB h
theorem hd_xw0_lineAt : yX0_lineAt.cls ≠ "java/lang/invoke/MethodHandle" ∧ yX0_lineAt.cls ≠ "java/lang/invoke/VarHandle" ∧ (parseMethodDescriptor yX0_lineAt.desc).map (fun d => d.parameters.length) = some 2 := by decide +kernel
theorem kxw0_lineAt {X : JC} {A : Nat → Prop} {Q : State → Prop} {nL k n pc : Nat} {lv : List (Nat × Value)} {st : List Value} {own : String} {cc : ByteArray} {ret : Option FieldType} {F LL mc ms ix : Nat} {D : va_G} {dA aK aV : Nat → Nat} {K : XK} {u : XS} {x0 : Nat} {x1 : Int32} {x2 : Int32} {Post : Int32 → XS → Prop} (hX : JX X own cc nL ret F LL mc ms) (hY : JY X D dA aK aV A) (h1a : K x0 = (1, 0)) (hlk : (Cond.methodLink own ix yX0_lineAt) ∈ lw_all) (hF : 2 + 1 ≤ F) (hL : 8 + (3 + 11) + 46 ≤ LL) (hk : k ≤ mc) (hk2 : n ≤ ms) (hw : (st.map fun v => v.category).sum ≤ 8) (d : decode cc pc = .ok (.invokevirtual ix, 3)) (q : Nat) (hq : pc + 3 = q) (h : xw0_lineAt x0 x1 x2 K u  Post) (kk : ∀ (r : Int32) (u2 : XS), Post r u2 → JJ X A Q nL (XP D dA A K u2) k n q lv (.int r :: st)) : JJ X A Q nL (XP D dA A K u) k n pc lv (.int x2 :: .int x1 :: .ref x0 :: st) :=
  jx_callVi (na := 2) (As := [.int x1, .int x2]) hX hY jf0 h1a (fun sz => mxw0_lineAt (jj_l X) hY.2.2.2.2 D dA aK aV x0 x1 x2 K u  Post h sz) hlk q1153 q1154 q120 q1155 ⟨rfl, hd_xw0_lineAt⟩ rfl rfl hw hF hL hk hk2 d q hq kk
theorem knxw0_lineAt {X : JC} {A : Nat → Prop} {Q : State → Prop} {nL k n pc : Nat} {lv : List (Nat × Value)} {st : List Value} {own : String} {cc : ByteArray} {ret : Option FieldType} {F LL mc ms ix : Nat} {D : va_G} {dA aK aV : Nat → Nat} {K : XK} {u : XS} {x0 : Nat} {x1 : Int32} {x2 : Int32} {host : String} {Post : Int32 → XS → Prop} (hX : JX X own cc nL ret F LL mc ms) (hY : JY X D dA aK aV A) (h1a : K x0 = (1, 0)) (hlk : (Cond.methodLinkNest own ix yX0_lineAt host) ∈ jx_nest) (hF : 2 + 1 ≤ F) (hL : 8 + (3 + 11) + 46 ≤ LL) (hk : k ≤ mc) (hk2 : n ≤ ms) (hw : (st.map fun v => v.category).sum ≤ 8) (d : decode cc pc = .ok (.invokevirtual ix, 3)) (q : Nat) (hq : pc + 3 = q) (h : xw0_lineAt x0 x1 x2 K u  Post) (kk : ∀ (r : Int32) (u2 : XS), Post r u2 → JJ X A Q nL (XP D dA A K u2) k n q lv (.int r :: st)) : JJ X A Q nL (XP D dA A K u) k n pc lv (.int x2 :: .int x1 :: .ref x0 :: st) :=
  jx_callNi (na := 2) (As := [.int x1, .int x2]) hX hY jf0 h1a (fun sz => mxw0_lineAt (jj_l X) hY.2.2.2.2 D dA aK aV x0 x1 x2 K u  Post h sz) hlk q1153 q1154 q120 q1155 hd_xw0_lineAt rfl rfl hw hF hL hk hk2 d q hq kk
def xw0_onPage_B104 (Post : Int32 → XS → Prop) (K : XK) (x0 : Nat) (x3 : Int32) (x5 : Int32) (s0 : Int32) (s1 : Nat) (u : XS) : Prop :=
  K s1 = (1, 0) ∧
  ∀ u104 : XS, u104 = xsi u s1 7 s0 →
  K x0 = (1, 0) ∧
  ((xi u104 x0 7) ≤ 0 →
    ∃ b123, (xr u104 x0 10) = some b123 ∧
    K b123 = (1, 4) ∧
    ∃ b128, (xr u104 b123 2) = some b128 ∧
    K b128 = (1, 15) ∧
    xw15_lineMany b128 x5 K u104 (fun r128 u128 =>
      (r128 ≤ x3 →
        Post (0 : Int32) u128) ∧
      (¬ r128 ≤ x3 →
        ∃ b138, (xr u128 x0 10) = some b138 ∧
        K b138 = (1, 4) ∧
        ∃ b141, (xr u128 b138 2) = some b141 ∧
        K b141 = (1, 15) ∧
        ∃ b148, (xr u128 x0 10) = some b148 ∧
        K b148 = (1, 4) ∧
        ∃ b151, (xr u128 b148 2) = some b151 ∧
        K b151 = (1, 15) ∧
        ∃ b156, (xr u128 b151 8) = some b156 ∧
        ∃ n156, K b156 = (2, n156) ∧
        vp_in x5 n156 ∧
        ∃ b159, (xr u128 b141 7) = some b159 ∧
        ∃ n159, K b159 = (2, n159) ∧
        vp_in ((xi u128 b156 x5.toNatClampNeg) + x3) n159 ∧
        Post (xi u128 b159 ((xi u128 b156 x5.toNatClampNeg) + x3).toNatClampNeg) u128))) ∧
  (¬ (xi u104 x0 7) ≤ 0 →
    Post (-1 : Int32) u104)
def xw0_onPage_B77 (Post : Int32 → XS → Prop) (K : XK) (x0 : Nat) (x3 : Int32) (x4 : Int32) (s0 : Int32) (u : XS) : Prop :=
  (¬ x4 = 0 →
    K x0 = (1, 0) ∧
    xw0_isLine x0 s0 K u (fun r92 u92 =>
      (r92 = 0 →
        xw0_onPage_B104 Post K x0 x3 s0 (6 : Int32) x0 u92) ∧
      (¬ r92 = 0 →
        xw0_onPage_B104 Post K x0 x3 s0 (0 : Int32) x0 u92))) ∧
  (x4 = 0 →
    xw0_onPage_B104 Post K x0 x3 s0 (1 : Int32) x0 u)
def xw0_onPage_B43 (Post : Int32 → XS → Prop) (K : XK) (x0 : Nat) (x1 : Int32) (x2 : Int32) (x3 : Int32) (s0 : Int32) (u : XS) : Prop :=
  (s0 = 0 →
    xw0_onPage_B77 Post K x0 x3 s0 (-1 : Int32) u) ∧
  (¬ s0 = 0 →
    xs_isIn x1.toInt64 (0 : Int64) (800 : Int64) (fun r56 =>
      (r56 = 0 →
        xw0_onPage_B77 Post K x0 x3 s0 (-1 : Int32) u) ∧
      (¬ r56 = 0 →
        K x0 = (1, 0) ∧
        xw0_table x0 K u (fun r64 u64 =>
          K r64 = (1, 5) ∧
          xw0_onPage_B77 Post K x0 x3 s0 ((x1 * (xi u64 r64 6)) + x2) u64))))
/-- RaisedPress.onPage(III)I -/
def xw0_onPage (x0 : Nat) (x1 : Int32) (x2 : Int32) (x3 : Int32) (K : XK) (u : XS) (Post : Int32 → XS → Prop) : Prop :=
  K x0 = (1, 0) ∧
  xw0_table x0 K u (fun r4 u4 =>
    K r4 = (1, 5) ∧
    xs_isIn x2.toInt64 (0 : Int64) ((xi u4 r4 6) - (1 : Int32)).toInt64 (fun r13 =>
      (r13 = 0 →
        xw0_onPage_B43 Post K x0 x1 x2 x3 (0 : Int32) u4) ∧
      (¬ r13 = 0 →
        xw0_table x0 K u4 (fun r23 u23 =>
          K r23 = (1, 5) ∧
          xs_isIn x3.toInt64 (0 : Int64) ((xi u23 r23 5) - (1 : Int32)).toInt64 (fun r32 =>
            (r32 = 0 →
              xw0_onPage_B43 Post K x0 x1 x2 x3 (0 : Int32) u23) ∧
            (¬ r32 = 0 →
              xw0_onPage_B43 Post K x0 x1 x2 x3 (1 : Int32) u23))))))
set_option maxHeartbeats 4000000 in
set_option maxRecDepth 100000 in
theorem txw0_onPage_B104 {X : JC} {D : va_G} {dA aK aV : Nat → Nat} {sz : Nat} {K : XK} {Post : Int32 → XS → Prop} {x0 : Nat} {x3 : Int32} {x5 : Int32} {s0 : Int32} {s1 : Nat} {u : XS} (hX : JX X yX0_onPage.cls cX0_onPage 6 (Option.some Jvm.ClassFile.FieldType.int) 2 46 0 0) (hY : JY X D dA aK aV (AX K sz)) (h : xw0_onPage_B104 Post K x0 x3 x5 s0 s1 u) : JJ X (AX K sz) (jj_Q X (va_Qi (fun (r : Int32) (w : XS) => Post r w) (jx_B D dA K) (AX K sz)) 0 0 (AX K sz)) 6 (XP D dA (AX K sz) K u) 0 0 104 [(0, .ref x0), (3, .int x3), (5, .int x5)] [.int s0, .ref s1] := by
  unfold xw0_onPage_B104 at h
  obtain ⟨k104, h⟩ := h
  refine xp0_7 hX hY k104 dX0_onPage_104 q418 107 rfl (fun u104 e104 => ?_)
  have h := h u104 e104
  refine jj_aload_n hX dX0_onPage_107 0 rfl 108 rfl ?_
  obtain ⟨k108, h⟩ := h
  refine xg0_7 hX hY k108 dX0_onPage_108 q418 111 rfl ?_
  refine jj_if_le hX dX0_onPage_111 118 114 (by decide) rfl (fun c111 => ?_) (fun c111 => ?_)
  · have h := h.1 c111
    refine jj_iload_n hX dX0_onPage_118 1 rfl 119 rfl ?_
    refine jj_aload_n hX dX0_onPage_119 0 rfl 120 rfl ?_
    refine xg0_10 hX hY k108 dX0_onPage_120 q421 123 rfl ?_
    obtain ⟨b123, g123, h⟩ := h
    refine jj_st (st2 := [.ref b123, .int x3]) (by rw [va_rf_some g123]) ?_
    obtain ⟨k123, h⟩ := h
    refine xgn4_2 hX hY k123 dX0_onPage_123 nq319 126 rfl ?_
    refine jj_iload hX dX0_onPage_126 2 rfl 128 rfl ?_
    obtain ⟨b128, g128, h⟩ := h
    refine jj_st (st2 := [.int x5, .ref b128, .int x3]) (by rw [va_rf_some g128]) ?_
    obtain ⟨k128, h⟩ := h
    refine kxw15_lineMany hX hY k128 q1148 (Nat.le_of_ble_eq_true rfl) (Nat.le_of_ble_eq_true rfl) (Nat.zero_le _) (Nat.zero_le _) (Nat.le_of_ble_eq_true rfl) dX0_onPage_128 131 rfl h (fun r128 u128 h => ?_)
    refine jj_icmp_ge hX dX0_onPage_131 163 134 (by decide) rfl (fun c131 => ?_) (fun c131 => ?_)
    · have h := h.1 c131
      refine jj_iconst hX dX0_onPage_163 ci_0 164 rfl ?_
      exact jj_reti (post := (fun (r : Int32) (w : XS) => Post r w)) (u := u128) hX dX0_onPage_164 (Nat.le_refl 0) (Nat.le_refl 0) jx_hB h
    · have h := h.2 c131
      refine jj_aload_n hX dX0_onPage_134 0 rfl 135 rfl ?_
      refine xg0_10 hX hY k108 dX0_onPage_135 q421 138 rfl ?_
      obtain ⟨b138, g138, h⟩ := h
      refine jj_st (st2 := [.ref b138]) (by rw [va_rf_some g138]) ?_
      obtain ⟨k138, h⟩ := h
      refine xgn4_2 hX hY k138 dX0_onPage_138 nq319 141 rfl ?_
      obtain ⟨b141, g141, h⟩ := h
      refine jj_st (st2 := [.ref b141]) (by rw [va_rf_some g141]) ?_
      obtain ⟨k141, h⟩ := h
      refine xgn15_7 hX hY k141 dX0_onPage_141 nq1021 144 rfl ?_
      refine jj_aload_n hX dX0_onPage_144 0 rfl 145 rfl ?_
      refine xg0_10 hX hY k108 dX0_onPage_145 q421 148 rfl ?_
      obtain ⟨b148, g148, h⟩ := h
      refine jj_st (st2 := [.ref b148, va_rf (xr u128 b141 7)]) (by rw [va_rf_some g148]) ?_
      obtain ⟨k148, h⟩ := h
      refine xgn4_2 hX hY k148 dX0_onPage_148 nq319 151 rfl ?_
      obtain ⟨b151, g151, h⟩ := h
      refine jj_st (st2 := [.ref b151, va_rf (xr u128 b141 7)]) (by rw [va_rf_some g151]) ?_
      obtain ⟨k151, h⟩ := h
      refine xgn15_8 hX hY k151 dX0_onPage_151 nq1024 154 rfl ?_
      refine jj_iload hX dX0_onPage_154 2 rfl 156 rfl ?_
      obtain ⟨b156, g156, h⟩ := h
      refine jj_st (st2 := [.int x5, .ref b156, va_rf (xr u128 b141 7)]) (by rw [va_rf_some g156]) ?_
      obtain ⟨n156, k156, h⟩ := h
      obtain ⟨hi156, h⟩ := h
      refine jx_iald hX hY.1 k156 _ rfl hi156 dX0_onPage_156 157 rfl ?_
      refine jj_iload_n hX dX0_onPage_157 1 rfl 158 rfl ?_
      refine jj_iadd hX dX0_onPage_158 159 rfl ?_
      obtain ⟨b159, g159, h⟩ := h
      refine jj_st (st2 := [.int ((xi u128 b156 x5.toNatClampNeg) + x3), .ref b159]) (by rw [va_rf_some g159]) ?_
      obtain ⟨n159, k159, h⟩ := h
      obtain ⟨hi159, h⟩ := h
      refine jx_iald hX hY.1 k159 _ rfl hi159 dX0_onPage_159 160 rfl ?_
      refine jj_goto hX dX0_onPage_160 164 (by decide) ?_
      exact jj_reti (post := (fun (r : Int32) (w : XS) => Post r w)) (u := u128) hX dX0_onPage_164 (Nat.le_refl 0) (Nat.le_refl 0) jx_hB h
  · have h := h.2 c111
    refine jj_iconst hX dX0_onPage_114 ci_m1 115 rfl ?_
    refine jj_goto hX dX0_onPage_115 164 (by decide) ?_
    exact jj_reti (post := (fun (r : Int32) (w : XS) => Post r w)) (u := u104) hX dX0_onPage_164 (Nat.le_refl 0) (Nat.le_refl 0) jx_hB h
set_option maxHeartbeats 4000000 in
set_option maxRecDepth 100000 in
theorem txw0_onPage_B77 {X : JC} {D : va_G} {dA aK aV : Nat → Nat} {sz : Nat} {K : XK} {Post : Int32 → XS → Prop} {x0 : Nat} {x3 : Int32} {x4 : Int32} {s0 : Int32} {u : XS} (hX : JX X yX0_onPage.cls cX0_onPage 6 (Option.some Jvm.ClassFile.FieldType.int) 2 46 0 0) (hY : JY X D dA aK aV (AX K sz)) (h : xw0_onPage_B77 Post K x0 x3 x4 s0 u) : JJ X (AX K sz) (jj_Q X (va_Qi (fun (r : Int32) (w : XS) => Post r w) (jx_B D dA K) (AX K sz)) 0 0 (AX K sz)) 6 (XP D dA (AX K sz) K u) 0 0 77 [(0, .ref x0), (3, .int x3), (4, .int x4)] [.int s0] := by
  unfold xw0_onPage_B77 at h
  refine jj_istore (lv2 := [(0, .ref x0), (3, .int x3), (4, .int x4), (5, .int s0)]) hX dX0_onPage_77 (Nat.le_of_ble_eq_true rfl) [1, 2, 3, 0] rfl 79 rfl ?_
  refine jj_aload_n hX dX0_onPage_79 0 rfl 80 rfl ?_
  refine jj_iload hX dX0_onPage_80 2 rfl 82 rfl ?_
  refine jj_if_ne hX dX0_onPage_82 89 85 (by decide) rfl (fun c82 => ?_) (fun c82 => ?_)
  · have h := h.1 c82
    refine jj_aload_n hX dX0_onPage_89 0 rfl 90 rfl ?_
    refine jj_iload hX dX0_onPage_90 3 rfl 92 rfl ?_
    obtain ⟨k92, h⟩ := h
    refine kxw0_isLine hX hY k92 q1144 (Nat.le_of_ble_eq_true rfl) (Nat.le_of_ble_eq_true rfl) (Nat.zero_le _) (Nat.zero_le _) (Nat.le_of_ble_eq_true rfl) dX0_onPage_92 95 rfl h (fun r92 u92 hb92 h => ?_)
    refine jj_if_eq hX dX0_onPage_95 102 98 (by decide) rfl (fun c95 => ?_) (fun c95 => ?_)
    · have h := h.1 c95
      refine jj_bipush hX dX0_onPage_102 cb_6 104 rfl ?_
      refine jj_sub (lv2 := [(0, .ref x0), (3, .int x3), (5, .int s0)]) [0, 1, 3] rfl ?_
      exact txw0_onPage_B104 hX hY h
    · have h := h.2 c95
      refine jj_iconst hX dX0_onPage_98 ci_0 99 rfl ?_
      refine jj_goto hX dX0_onPage_99 104 (by decide) ?_
      refine jj_sub (lv2 := [(0, .ref x0), (3, .int x3), (5, .int s0)]) [0, 1, 3] rfl ?_
      exact txw0_onPage_B104 hX hY h
  · have h := h.2 c82
    refine jj_iconst hX dX0_onPage_85 ci_1 86 rfl ?_
    refine jj_goto hX dX0_onPage_86 104 (by decide) ?_
    refine jj_sub (lv2 := [(0, .ref x0), (3, .int x3), (5, .int s0)]) [0, 1, 3] rfl ?_
    exact txw0_onPage_B104 hX hY h
set_option maxHeartbeats 4000000 in
set_option maxRecDepth 100000 in
theorem txw0_onPage_B43 {X : JC} {D : va_G} {dA aK aV : Nat → Nat} {sz : Nat} {K : XK} {Post : Int32 → XS → Prop} {x0 : Nat} {x1 : Int32} {x2 : Int32} {x3 : Int32} {s0 : Int32} {u : XS} (hX : JX X yX0_onPage.cls cX0_onPage 6 (Option.some Jvm.ClassFile.FieldType.int) 2 46 0 0) (hY : JY X D dA aK aV (AX K sz)) (h : xw0_onPage_B43 Post K x0 x1 x2 x3 s0 u) : JJ X (AX K sz) (jj_Q X (va_Qi (fun (r : Int32) (w : XS) => Post r w) (jx_B D dA K) (AX K sz)) 0 0 (AX K sz)) 6 (XP D dA (AX K sz) K u) 0 0 43 [(0, .ref x0), (1, .int x1), (2, .int x2), (3, .int x3)] [.int s0] := by
  unfold xw0_onPage_B43 at h
  refine jj_istore (lv2 := [(0, .ref x0), (1, .int x1), (2, .int x2), (3, .int x3), (4, .int s0)]) hX dX0_onPage_43 (Nat.le_of_ble_eq_true rfl) [1, 2, 3, 4, 0] rfl 45 rfl ?_
  refine jj_iload hX dX0_onPage_45 4 rfl 47 rfl ?_
  refine jj_if_eq hX dX0_onPage_47 76 50 (by decide) rfl (fun c47 => ?_) (fun c47 => ?_)
  · have h := h.1 c47
    refine jj_iconst hX dX0_onPage_76 ci_m1 77 rfl ?_
    refine jj_sub (lv2 := [(0, .ref x0), (3, .int x3), (4, .int s0)]) [0, 3, 4] rfl ?_
    exact txw0_onPage_B77 hX hY h
  · have h := h.2 c47
    refine jj_iload_n hX dX0_onPage_50 1 rfl 51 rfl ?_
    refine jj_i2l hX dX0_onPage_51 52 rfl ?_
    refine jj_lconst (v := 0) hX dX0_onPage_52 (by decide) 53 rfl ?_
    refine jj_ldc2 (v := 800) hX dX0_onPage_53 q1160 56 rfl ?_
    refine kxs_isIn hX XP.keeps q1074 (Nat.le_of_ble_eq_true rfl) (Nat.le_of_ble_eq_true rfl) (Nat.zero_le _) (Nat.zero_le _) (Nat.le_of_ble_eq_true rfl) dX0_onPage_56 59 rfl h (fun r56 hb56 h => ?_)
    refine jj_if_eq hX dX0_onPage_59 76 62 (by decide) rfl (fun c59 => ?_) (fun c59 => ?_)
    · have h := h.1 c59
      refine jj_iconst hX dX0_onPage_76 ci_m1 77 rfl ?_
      refine jj_sub (lv2 := [(0, .ref x0), (3, .int x3), (4, .int s0)]) [0, 3, 4] rfl ?_
      exact txw0_onPage_B77 hX hY h
    · have h := h.2 c59
      refine jj_iload_n hX dX0_onPage_62 1 rfl 63 rfl ?_
      refine jj_aload_n hX dX0_onPage_63 0 rfl 64 rfl ?_
      obtain ⟨k64, h⟩ := h
      refine kxw0_table hX hY k64 q879 (Nat.le_of_ble_eq_true rfl) (Nat.le_of_ble_eq_true rfl) (Nat.zero_le _) (Nat.zero_le _) (Nat.le_of_ble_eq_true rfl) dX0_onPage_64 67 rfl h (fun r64 u64 h => ?_)
      obtain ⟨k67, h⟩ := h
      refine xgn5_6 hX hY k67 dX0_onPage_67 nq298 70 rfl ?_
      refine jj_imul hX dX0_onPage_70 71 rfl ?_
      refine jj_iload_n hX dX0_onPage_71 2 rfl 72 rfl ?_
      refine jj_iadd hX dX0_onPage_72 73 rfl ?_
      refine jj_goto hX dX0_onPage_73 77 (by decide) ?_
      refine jj_sub (lv2 := [(0, .ref x0), (3, .int x3), (4, .int s0)]) [0, 3, 4] rfl ?_
      exact txw0_onPage_B77 hX hY h
set_option maxHeartbeats 4000000 in
set_option maxRecDepth 100000 in
theorem mxw0_onPage (l : Launch) (hfl : l.stackTraces = false) (D : va_G) (dA aK aV : Nat → Nat) (x0 : Nat) (x1 : Int32) (x2 : Int32) (x3 : Int32) (K : XK) (u : XS) (Post : Int32 → XS → Prop) (h : xw0_onPage x0 x1 x2 x3 K u Post) (sz : Nat) : Met l yX0_onPage (ws_ yX0_onPage cX0_onPage 6 (Option.some Jvm.ClassFile.FieldType.int)) (jx_rm 2 46 0 0) (jx_Pc D dA aK aV K u sz [.ref x0, .int x1, .int x2, .int x3]) (va_Qi (fun (r : Int32) (w : XS) => Post r w) (jx_B D dA K) (AX K sz)) 0 0 (AX K sz) := by
  refine jx_start hfl [.ref x0, .int x1, .int x2, .int x3] [(0, .ref x0), (1, .int x1), (2, .int x2), (3, .int x3)] (by decide) (Nat.le_of_ble_eq_true rfl) rfl (fun X hX hY hin => ?_)
  unfold xw0_onPage at h
  refine jj_iload_n hX dX0_onPage_0 2 rfl 1 rfl ?_
  refine jj_i2l hX dX0_onPage_1 2 rfl ?_
  refine jj_lconst (v := 0) hX dX0_onPage_2 (by decide) 3 rfl ?_
  refine jj_aload_n hX dX0_onPage_3 0 rfl 4 rfl ?_
  obtain ⟨k4, h⟩ := h
  refine kxw0_table hX hY k4 q879 (Nat.le_of_ble_eq_true rfl) (Nat.le_of_ble_eq_true rfl) (Nat.zero_le _) (Nat.zero_le _) (Nat.le_of_ble_eq_true rfl) dX0_onPage_4 7 rfl h (fun r4 u4 h => ?_)
  obtain ⟨k7, h⟩ := h
  refine xgn5_6 hX hY k7 dX0_onPage_7 nq298 10 rfl ?_
  refine jj_iconst hX dX0_onPage_10 ci_1 11 rfl ?_
  refine jj_isub hX dX0_onPage_11 12 rfl ?_
  refine jj_i2l hX dX0_onPage_12 13 rfl ?_
  refine kxs_isIn hX XP.keeps q1074 (Nat.le_of_ble_eq_true rfl) (Nat.le_of_ble_eq_true rfl) (Nat.zero_le _) (Nat.zero_le _) (Nat.le_of_ble_eq_true rfl) dX0_onPage_13 16 rfl h (fun r13 hb13 h => ?_)
  refine jj_if_eq hX dX0_onPage_16 42 19 (by decide) rfl (fun c16 => ?_) (fun c16 => ?_)
  · have h := h.1 c16
    refine jj_iconst hX dX0_onPage_42 ci_0 43 rfl ?_
    exact txw0_onPage_B43 hX hY h
  · have h := h.2 c16
    refine jj_iload_n hX dX0_onPage_19 3 rfl 20 rfl ?_
    refine jj_i2l hX dX0_onPage_20 21 rfl ?_
    refine jj_lconst (v := 0) hX dX0_onPage_21 (by decide) 22 rfl ?_
    refine jj_aload_n hX dX0_onPage_22 0 rfl 23 rfl ?_
    refine kxw0_table hX hY k4 q879 (Nat.le_of_ble_eq_true rfl) (Nat.le_of_ble_eq_true rfl) (Nat.zero_le _) (Nat.zero_le _) (Nat.le_of_ble_eq_true rfl) dX0_onPage_23 26 rfl h (fun r23 u23 h => ?_)
    obtain ⟨k26, h⟩ := h
    refine xgn5_5 hX hY k26 dX0_onPage_26 nq295 29 rfl ?_
    refine jj_iconst hX dX0_onPage_29 ci_1 30 rfl ?_
    refine jj_isub hX dX0_onPage_30 31 rfl ?_
    refine jj_i2l hX dX0_onPage_31 32 rfl ?_
    refine kxs_isIn hX XP.keeps q1074 (Nat.le_of_ble_eq_true rfl) (Nat.le_of_ble_eq_true rfl) (Nat.zero_le _) (Nat.zero_le _) (Nat.le_of_ble_eq_true rfl) dX0_onPage_32 35 rfl h (fun r32 hb32 h => ?_)
    refine jj_if_eq hX dX0_onPage_35 42 38 (by decide) rfl (fun c35 => ?_) (fun c35 => ?_)
    · have h := h.1 c35
      refine jj_iconst hX dX0_onPage_42 ci_0 43 rfl ?_
      exact txw0_onPage_B43 hX hY h
    · have h := h.2 c35
      refine jj_iconst hX dX0_onPage_38 ci_1 39 rfl ?_
      refine jj_goto hX dX0_onPage_39 43 (by decide) ?_
      exact txw0_onPage_B43 hX hY h
theorem hd_xw0_onPage : yX0_onPage.cls ≠ "java/lang/invoke/MethodHandle" ∧ yX0_onPage.cls ≠ "java/lang/invoke/VarHandle" ∧ (parseMethodDescriptor yX0_onPage.desc).map (fun d => d.parameters.length) = some 3 := by decide +kernel
theorem kxw0_onPage {X : JC} {A : Nat → Prop} {Q : State → Prop} {nL k n pc : Nat} {lv : List (Nat × Value)} {st : List Value} {own : String} {cc : ByteArray} {ret : Option FieldType} {F LL mc ms ix : Nat} {D : va_G} {dA aK aV : Nat → Nat} {K : XK} {u : XS} {x0 : Nat} {x1 : Int32} {x2 : Int32} {x3 : Int32} {Post : Int32 → XS → Prop} (hX : JX X own cc nL ret F LL mc ms) (hY : JY X D dA aK aV A) (h1a : K x0 = (1, 0)) (hlk : (Cond.methodLink own ix yX0_onPage) ∈ lw_all) (hF : 2 + 1 ≤ F) (hL : 8 + (6 + 11) + 46 ≤ LL) (hk : k ≤ mc) (hk2 : n ≤ ms) (hw : (st.map fun v => v.category).sum ≤ 8) (d : decode cc pc = .ok (.invokevirtual ix, 3)) (q : Nat) (hq : pc + 3 = q) (h : xw0_onPage x0 x1 x2 x3 K u  Post) (kk : ∀ (r : Int32) (u2 : XS), Post r u2 → JJ X A Q nL (XP D dA A K u2) k n q lv (.int r :: st)) : JJ X A Q nL (XP D dA A K u) k n pc lv (.int x3 :: .int x2 :: .int x1 :: .ref x0 :: st) :=
  jx_callVi (na := 3) (As := [.int x1, .int x2, .int x3]) hX hY jf0 h1a (fun sz => mxw0_onPage (jj_l X) hY.2.2.2.2 D dA aK aV x0 x1 x2 x3 K u  Post h sz) hlk q1157 q1158 q120 q1159 ⟨rfl, hd_xw0_onPage⟩ rfl rfl hw hF hL hk hk2 d q hq kk
theorem knxw0_onPage {X : JC} {A : Nat → Prop} {Q : State → Prop} {nL k n pc : Nat} {lv : List (Nat × Value)} {st : List Value} {own : String} {cc : ByteArray} {ret : Option FieldType} {F LL mc ms ix : Nat} {D : va_G} {dA aK aV : Nat → Nat} {K : XK} {u : XS} {x0 : Nat} {x1 : Int32} {x2 : Int32} {x3 : Int32} {host : String} {Post : Int32 → XS → Prop} (hX : JX X own cc nL ret F LL mc ms) (hY : JY X D dA aK aV A) (h1a : K x0 = (1, 0)) (hlk : (Cond.methodLinkNest own ix yX0_onPage host) ∈ jx_nest) (hF : 2 + 1 ≤ F) (hL : 8 + (6 + 11) + 46 ≤ LL) (hk : k ≤ mc) (hk2 : n ≤ ms) (hw : (st.map fun v => v.category).sum ≤ 8) (d : decode cc pc = .ok (.invokevirtual ix, 3)) (q : Nat) (hq : pc + 3 = q) (h : xw0_onPage x0 x1 x2 x3 K u  Post) (kk : ∀ (r : Int32) (u2 : XS), Post r u2 → JJ X A Q nL (XP D dA A K u2) k n q lv (.int r :: st)) : JJ X A Q nL (XP D dA A K u) k n pc lv (.int x3 :: .int x2 :: .int x1 :: .ref x0 :: st) :=
  jx_callNi (na := 3) (As := [.int x1, .int x2, .int x3]) hX hY jf0 h1a (fun sz => mxw0_onPage (jj_l X) hY.2.2.2.2 D dA aK aV x0 x1 x2 x3 K u  Post h sz) hlk q1157 q1158 q120 q1159 hd_xw0_onPage rfl rfl hw hF hL hk hk2 d q hq kk
/-- RaisedPress.hyphens()I -/
def xw0_hyphens (x0 : Nat) (K : XK) (u : XS) (Post : Int32 → XS → Prop) : Prop :=
  K x0 = (1, 0) ∧
  xw0_whyNotSet x0 K u (fun r2 u2 =>
    ∀ u5 : XS, u5 = xsi u2 x0 7 r2 →
    ((xi u5 x0 7) ≤ 0 →
      ∃ b23, (xr u5 x0 10) = some b23 ∧
      K b23 = (1, 4) ∧
      ∃ b26, (xr u5 b23 2) = some b26 ∧
      K b26 = (1, 15) ∧
      Post (xi u5 b26 11) u5) ∧
    (¬ (xi u5 x0 7) ≤ 0 →
      Post (-1 : Int32) u5))
set_option maxHeartbeats 4000000 in
set_option maxRecDepth 100000 in
theorem mxw0_hyphens (l : Launch) (hfl : l.stackTraces = false) (D : va_G) (dA aK aV : Nat → Nat) (x0 : Nat) (K : XK) (u : XS) (Post : Int32 → XS → Prop) (h : xw0_hyphens x0 K u Post) (sz : Nat) : Met l yX0_hyphens (ws_ yX0_hyphens cX0_hyphens 1 (Option.some Jvm.ClassFile.FieldType.int)) (jx_rm 2 40 0 0) (jx_Pc D dA aK aV K u sz [.ref x0]) (va_Qi (fun (r : Int32) (w : XS) => Post r w) (jx_B D dA K) (AX K sz)) 0 0 (AX K sz) := by
  refine jx_start hfl [.ref x0] [(0, .ref x0)] (by decide) (Nat.le_of_ble_eq_true rfl) rfl (fun X hX hY hin => ?_)
  unfold xw0_hyphens at h
  refine jj_aload_n hX dX0_hyphens_0 0 rfl 1 rfl ?_
  refine jj_aload_n hX dX0_hyphens_1 0 rfl 2 rfl ?_
  obtain ⟨k2, h⟩ := h
  refine kxw0_whyNotSet hX hY k2 q1111 (Nat.le_of_ble_eq_true rfl) (Nat.le_of_ble_eq_true rfl) (Nat.zero_le _) (Nat.zero_le _) (Nat.le_of_ble_eq_true rfl) dX0_hyphens_2 5 rfl h (fun r2 u2 h => ?_)
  refine xp0_7 hX hY k2 dX0_hyphens_5 q418 8 rfl (fun u5 e5 => ?_)
  have h := h u5 e5
  refine jj_aload_n hX dX0_hyphens_8 0 rfl 9 rfl ?_
  refine xg0_7 hX hY k2 dX0_hyphens_9 q418 12 rfl ?_
  refine jj_if_le hX dX0_hyphens_12 19 15 (by decide) rfl (fun c12 => ?_) (fun c12 => ?_)
  · have h := h.1 c12
    refine jj_aload_n hX dX0_hyphens_19 0 rfl 20 rfl ?_
    refine xg0_10 hX hY k2 dX0_hyphens_20 q421 23 rfl ?_
    obtain ⟨b23, g23, h⟩ := h
    refine jj_st (st2 := [.ref b23]) (by rw [va_rf_some g23]) ?_
    obtain ⟨k23, h⟩ := h
    refine xgn4_2 hX hY k23 dX0_hyphens_23 nq319 26 rfl ?_
    obtain ⟨b26, g26, h⟩ := h
    refine jj_st (st2 := [.ref b26]) (by rw [va_rf_some g26]) ?_
    obtain ⟨k26, h⟩ := h
    refine xgn15_11 hX hY k26 dX0_hyphens_26 nq1031 29 rfl ?_
    exact jj_reti (post := (fun (r : Int32) (w : XS) => Post r w)) (u := u5) hX dX0_hyphens_29 (Nat.le_refl 0) (Nat.le_refl 0) jx_hB h
  · have h := h.2 c12
    refine jj_iconst hX dX0_hyphens_15 ci_m1 16 rfl ?_
    refine jj_goto hX dX0_hyphens_16 29 (by decide) ?_
    exact jj_reti (post := (fun (r : Int32) (w : XS) => Post r w)) (u := u5) hX dX0_hyphens_29 (Nat.le_refl 0) (Nat.le_refl 0) jx_hB h
theorem hd_xw0_hyphens : yX0_hyphens.cls ≠ "java/lang/invoke/MethodHandle" ∧ yX0_hyphens.cls ≠ "java/lang/invoke/VarHandle" ∧ (parseMethodDescriptor yX0_hyphens.desc).map (fun d => d.parameters.length) = some 0 := by decide +kernel
theorem kxw0_hyphens {X : JC} {A : Nat → Prop} {Q : State → Prop} {nL k n pc : Nat} {lv : List (Nat × Value)} {st : List Value} {own : String} {cc : ByteArray} {ret : Option FieldType} {F LL mc ms ix : Nat} {D : va_G} {dA aK aV : Nat → Nat} {K : XK} {u : XS} {x0 : Nat} {Post : Int32 → XS → Prop} (hX : JX X own cc nL ret F LL mc ms) (hY : JY X D dA aK aV A) (h1a : K x0 = (1, 0)) (hlk : (Cond.methodLink own ix yX0_hyphens) ∈ lw_all) (hF : 2 + 1 ≤ F) (hL : 8 + (1 + 11) + 40 ≤ LL) (hk : k ≤ mc) (hk2 : n ≤ ms) (hw : (st.map fun v => v.category).sum ≤ 8) (d : decode cc pc = .ok (.invokevirtual ix, 3)) (q : Nat) (hq : pc + 3 = q) (h : xw0_hyphens x0 K u  Post) (kk : ∀ (r : Int32) (u2 : XS), Post r u2 → JJ X A Q nL (XP D dA A K u2) k n q lv (.int r :: st)) : JJ X A Q nL (XP D dA A K u) k n pc lv (.ref x0 :: st) :=
  jx_callVi (na := 0) (As := []) hX hY jf0 h1a (fun sz => mxw0_hyphens (jj_l X) hY.2.2.2.2 D dA aK aV x0 K u  Post h sz) hlk q1162 q1163 q120 q1164 ⟨rfl, hd_xw0_hyphens⟩ rfl rfl hw hF hL hk hk2 d q hq kk
theorem knxw0_hyphens {X : JC} {A : Nat → Prop} {Q : State → Prop} {nL k n pc : Nat} {lv : List (Nat × Value)} {st : List Value} {own : String} {cc : ByteArray} {ret : Option FieldType} {F LL mc ms ix : Nat} {D : va_G} {dA aK aV : Nat → Nat} {K : XK} {u : XS} {x0 : Nat} {host : String} {Post : Int32 → XS → Prop} (hX : JX X own cc nL ret F LL mc ms) (hY : JY X D dA aK aV A) (h1a : K x0 = (1, 0)) (hlk : (Cond.methodLinkNest own ix yX0_hyphens host) ∈ jx_nest) (hF : 2 + 1 ≤ F) (hL : 8 + (1 + 11) + 40 ≤ LL) (hk : k ≤ mc) (hk2 : n ≤ ms) (hw : (st.map fun v => v.category).sum ≤ 8) (d : decode cc pc = .ok (.invokevirtual ix, 3)) (q : Nat) (hq : pc + 3 = q) (h : xw0_hyphens x0 K u  Post) (kk : ∀ (r : Int32) (u2 : XS), Post r u2 → JJ X A Q nL (XP D dA A K u2) k n q lv (.int r :: st)) : JJ X A Q nL (XP D dA A K u) k n pc lv (.ref x0 :: st) :=
  jx_callNi (na := 0) (As := []) hX hY jf0 h1a (fun sz => mxw0_hyphens (jj_l X) hY.2.2.2.2 D dA aK aV x0 K u  Post h sz) hlk q1162 q1163 q120 q1164 hd_xw0_hyphens rfl rfl hw hF hL hk hk2 d q hq kk
def xw0_used_B17 (Post : Int32 → XS → Prop) (K : XK) (x0 : Nat) (x1 : Int32) (s0 : Int32) (s1 : Nat) (u : XS) : Prop :=
  K s1 = (1, 0) ∧
  ∀ u17 : XS, u17 = xsi u s1 7 s0 →
  K x0 = (1, 0) ∧
  ((xi u17 x0 7) ≤ 0 →
    ∃ b35, (xr u17 x0 10) = some b35 ∧
    K b35 = (1, 4) ∧
    ∃ b38, (xr u17 b35 2) = some b38 ∧
    K b38 = (1, 15) ∧
    ∃ b42, (xr u17 b38 9) = some b42 ∧
    ∃ n42, K b42 = (2, n42) ∧
    vp_in x1 n42 ∧
    Post (xi u17 b42 x1.toNatClampNeg) u17) ∧
  (¬ (xi u17 x0 7) ≤ 0 →
    Post (-1 : Int32) u17)
/-- RaisedPress.used(I)I -/
def xw0_used (x0 : Nat) (x1 : Int32) (K : XK) (u : XS) (Post : Int32 → XS → Prop) : Prop :=
  K x0 = (1, 0) ∧
  xw0_isRule x0 x1 K u (fun r3 u3 =>
    (¬ r3 = 0 →
      xw0_whyNotSet x0 K u3 (fun r14 u14 =>
        xw0_used_B17 Post K x0 x1 r14 x0 u14)) ∧
    (r3 = 0 →
      xw0_used_B17 Post K x0 x1 (1 : Int32) x0 u3))
set_option maxHeartbeats 4000000 in
set_option maxRecDepth 100000 in
theorem txw0_used_B17 {X : JC} {D : va_G} {dA aK aV : Nat → Nat} {sz : Nat} {K : XK} {Post : Int32 → XS → Prop} {x0 : Nat} {x1 : Int32} {s0 : Int32} {s1 : Nat} {u : XS} (hX : JX X yX0_used.cls cX0_used 2 (Option.some Jvm.ClassFile.FieldType.int) 2 46 0 0) (hY : JY X D dA aK aV (AX K sz)) (h : xw0_used_B17 Post K x0 x1 s0 s1 u) : JJ X (AX K sz) (jj_Q X (va_Qi (fun (r : Int32) (w : XS) => Post r w) (jx_B D dA K) (AX K sz)) 0 0 (AX K sz)) 2 (XP D dA (AX K sz) K u) 0 0 17 [(0, .ref x0), (1, .int x1)] [.int s0, .ref s1] := by
  unfold xw0_used_B17 at h
  obtain ⟨k17, h⟩ := h
  refine xp0_7 hX hY k17 dX0_used_17 q418 20 rfl (fun u17 e17 => ?_)
  have h := h u17 e17
  refine jj_aload_n hX dX0_used_20 0 rfl 21 rfl ?_
  obtain ⟨k21, h⟩ := h
  refine xg0_7 hX hY k21 dX0_used_21 q418 24 rfl ?_
  refine jj_if_le hX dX0_used_24 31 27 (by decide) rfl (fun c24 => ?_) (fun c24 => ?_)
  · have h := h.1 c24
    refine jj_aload_n hX dX0_used_31 0 rfl 32 rfl ?_
    refine xg0_10 hX hY k21 dX0_used_32 q421 35 rfl ?_
    obtain ⟨b35, g35, h⟩ := h
    refine jj_st (st2 := [.ref b35]) (by rw [va_rf_some g35]) ?_
    obtain ⟨k35, h⟩ := h
    refine xgn4_2 hX hY k35 dX0_used_35 nq319 38 rfl ?_
    obtain ⟨b38, g38, h⟩ := h
    refine jj_st (st2 := [.ref b38]) (by rw [va_rf_some g38]) ?_
    obtain ⟨k38, h⟩ := h
    refine xgn15_9 hX hY k38 dX0_used_38 nq1027 41 rfl ?_
    refine jj_iload_n hX dX0_used_41 1 rfl 42 rfl ?_
    obtain ⟨b42, g42, h⟩ := h
    refine jj_st (st2 := [.int x1, .ref b42]) (by rw [va_rf_some g42]) ?_
    obtain ⟨n42, k42, h⟩ := h
    obtain ⟨hi42, h⟩ := h
    refine jx_iald hX hY.1 k42 _ rfl hi42 dX0_used_42 43 rfl ?_
    exact jj_reti (post := (fun (r : Int32) (w : XS) => Post r w)) (u := u17) hX dX0_used_43 (Nat.le_refl 0) (Nat.le_refl 0) jx_hB h
  · have h := h.2 c24
    refine jj_iconst hX dX0_used_27 ci_m1 28 rfl ?_
    refine jj_goto hX dX0_used_28 43 (by decide) ?_
    exact jj_reti (post := (fun (r : Int32) (w : XS) => Post r w)) (u := u17) hX dX0_used_43 (Nat.le_refl 0) (Nat.le_refl 0) jx_hB h
set_option maxHeartbeats 4000000 in
set_option maxRecDepth 100000 in
theorem mxw0_used (l : Launch) (hfl : l.stackTraces = false) (D : va_G) (dA aK aV : Nat → Nat) (x0 : Nat) (x1 : Int32) (K : XK) (u : XS) (Post : Int32 → XS → Prop) (h : xw0_used x0 x1 K u Post) (sz : Nat) : Met l yX0_used (ws_ yX0_used cX0_used 2 (Option.some Jvm.ClassFile.FieldType.int)) (jx_rm 2 46 0 0) (jx_Pc D dA aK aV K u sz [.ref x0, .int x1]) (va_Qi (fun (r : Int32) (w : XS) => Post r w) (jx_B D dA K) (AX K sz)) 0 0 (AX K sz) := by
  refine jx_start hfl [.ref x0, .int x1] [(0, .ref x0), (1, .int x1)] (by decide) (Nat.le_of_ble_eq_true rfl) rfl (fun X hX hY hin => ?_)
  unfold xw0_used at h
  refine jj_aload_n hX dX0_used_0 0 rfl 1 rfl ?_
  refine jj_aload_n hX dX0_used_1 0 rfl 2 rfl ?_
  refine jj_iload_n hX dX0_used_2 1 rfl 3 rfl ?_
  obtain ⟨k3, h⟩ := h
  refine kxw0_isRule hX hY k3 q1085 (Nat.le_of_ble_eq_true rfl) (Nat.le_of_ble_eq_true rfl) (Nat.zero_le _) (Nat.zero_le _) (Nat.le_of_ble_eq_true rfl) dX0_used_3 6 rfl h (fun r3 u3 hb3 h => ?_)
  refine jj_if_ne hX dX0_used_6 13 9 (by decide) rfl (fun c6 => ?_) (fun c6 => ?_)
  · have h := h.1 c6
    refine jj_aload_n hX dX0_used_13 0 rfl 14 rfl ?_
    refine kxw0_whyNotSet hX hY k3 q1111 (Nat.le_of_ble_eq_true rfl) (Nat.le_of_ble_eq_true rfl) (Nat.zero_le _) (Nat.zero_le _) (Nat.le_of_ble_eq_true rfl) dX0_used_14 17 rfl h (fun r14 u14 h => ?_)
    exact txw0_used_B17 hX hY h
  · have h := h.2 c6
    refine jj_iconst hX dX0_used_9 ci_1 10 rfl ?_
    refine jj_goto hX dX0_used_10 17 (by decide) ?_
    exact txw0_used_B17 hX hY h
theorem hd_xw0_used : yX0_used.cls ≠ "java/lang/invoke/MethodHandle" ∧ yX0_used.cls ≠ "java/lang/invoke/VarHandle" ∧ (parseMethodDescriptor yX0_used.desc).map (fun d => d.parameters.length) = some 1 := by decide +kernel
theorem kxw0_used {X : JC} {A : Nat → Prop} {Q : State → Prop} {nL k n pc : Nat} {lv : List (Nat × Value)} {st : List Value} {own : String} {cc : ByteArray} {ret : Option FieldType} {F LL mc ms ix : Nat} {D : va_G} {dA aK aV : Nat → Nat} {K : XK} {u : XS} {x0 : Nat} {x1 : Int32} {Post : Int32 → XS → Prop} (hX : JX X own cc nL ret F LL mc ms) (hY : JY X D dA aK aV A) (h1a : K x0 = (1, 0)) (hlk : (Cond.methodLink own ix yX0_used) ∈ lw_all) (hF : 2 + 1 ≤ F) (hL : 8 + (2 + 11) + 46 ≤ LL) (hk : k ≤ mc) (hk2 : n ≤ ms) (hw : (st.map fun v => v.category).sum ≤ 8) (d : decode cc pc = .ok (.invokevirtual ix, 3)) (q : Nat) (hq : pc + 3 = q) (h : xw0_used x0 x1 K u  Post) (kk : ∀ (r : Int32) (u2 : XS), Post r u2 → JJ X A Q nL (XP D dA A K u2) k n q lv (.int r :: st)) : JJ X A Q nL (XP D dA A K u) k n pc lv (.int x1 :: .ref x0 :: st) :=
  jx_callVi (na := 1) (As := [.int x1]) hX hY jf0 h1a (fun sz => mxw0_used (jj_l X) hY.2.2.2.2 D dA aK aV x0 x1 K u  Post h sz) hlk q1166 q1167 q120 q1168 ⟨rfl, hd_xw0_used⟩ rfl rfl hw hF hL hk hk2 d q hq kk
theorem knxw0_used {X : JC} {A : Nat → Prop} {Q : State → Prop} {nL k n pc : Nat} {lv : List (Nat × Value)} {st : List Value} {own : String} {cc : ByteArray} {ret : Option FieldType} {F LL mc ms ix : Nat} {D : va_G} {dA aK aV : Nat → Nat} {K : XK} {u : XS} {x0 : Nat} {x1 : Int32} {host : String} {Post : Int32 → XS → Prop} (hX : JX X own cc nL ret F LL mc ms) (hY : JY X D dA aK aV A) (h1a : K x0 = (1, 0)) (hlk : (Cond.methodLinkNest own ix yX0_used host) ∈ jx_nest) (hF : 2 + 1 ≤ F) (hL : 8 + (2 + 11) + 46 ≤ LL) (hk : k ≤ mc) (hk2 : n ≤ ms) (hw : (st.map fun v => v.category).sum ≤ 8) (d : decode cc pc = .ok (.invokevirtual ix, 3)) (q : Nat) (hq : pc + 3 = q) (h : xw0_used x0 x1 K u  Post) (kk : ∀ (r : Int32) (u2 : XS), Post r u2 → JJ X A Q nL (XP D dA A K u2) k n q lv (.int r :: st)) : JJ X A Q nL (XP D dA A K u) k n pc lv (.int x1 :: .ref x0 :: st) :=
  jx_callNi (na := 1) (As := [.int x1]) hX hY jf0 h1a (fun sz => mxw0_used (jj_l X) hY.2.2.2.2 D dA aK aV x0 x1 K u  Post h sz) hlk q1166 q1167 q120 q1168 hd_xw0_used rfl rfl hw hF hL hk hk2 d q hq kk
/-- RaisedPress.isThere(I)Z -/
def xw0_isThere (x0 : Nat) (x1 : Int32) (K : XK) (u : XS) (Post : Int32 → XS → Prop) : Prop :=
  K x0 = (1, 0) ∧
  ∃ b4, (xr u x0 10) = some b4 ∧
  K b4 = (1, 4) ∧
  (¬ (((xi u b4 1) >>> (x1 &&& 31)) &&& (1 : Int32)) = 0 →
    Post (0 : Int32) u) ∧
  ((((xi u b4 1) >>> (x1 &&& 31)) &&& (1 : Int32)) = 0 →
    Post (1 : Int32) u)
set_option maxHeartbeats 4000000 in
set_option maxRecDepth 100000 in
theorem mxw0_isThere (l : Launch) (hfl : l.stackTraces = false) (D : va_G) (dA aK aV : Nat → Nat) (x0 : Nat) (x1 : Int32) (K : XK) (u : XS) (Post : Int32 → XS → Prop) (h : xw0_isThere x0 x1 K u Post) (sz : Nat) : Met l yX0_isThere (ws_ yX0_isThere cX0_isThere 2 (Option.some Jvm.ClassFile.FieldType.boolean)) (jx_rm 0 0 0 0) (jx_Pc D dA aK aV K u sz [.ref x0, .int x1]) (va_Qi (fun (r : Int32) (w : XS) => Post r w ∧ jj_z r) (jx_B D dA K) (AX K sz)) 0 0 (AX K sz) := by
  refine jx_start hfl [.ref x0, .int x1] [(0, .ref x0), (1, .int x1)] (by decide) (Nat.le_of_ble_eq_true rfl) rfl (fun X hX hY hin => ?_)
  unfold xw0_isThere at h
  refine jj_aload_n hX dX0_isThere_0 0 rfl 1 rfl ?_
  obtain ⟨k1, h⟩ := h
  refine xg0_10 hX hY k1 dX0_isThere_1 q421 4 rfl ?_
  obtain ⟨b4, g4, h⟩ := h
  refine jj_st (st2 := [.ref b4]) (by rw [va_rf_some g4]) ?_
  obtain ⟨k4, h⟩ := h
  refine xgn4_1 hX hY k4 dX0_isThere_4 nq317 7 rfl ?_
  refine jj_iload_n hX dX0_isThere_7 1 rfl 8 rfl ?_
  refine jj_ishr hX dX0_isThere_8 9 rfl ?_
  refine jj_iconst hX dX0_isThere_9 ci_1 10 rfl ?_
  refine jj_iand hX dX0_isThere_10 11 rfl ?_
  refine jj_if_ne hX dX0_isThere_11 18 14 (by decide) rfl (fun c11 => ?_) (fun c11 => ?_)
  · have h := h.1 c11
    refine jj_iconst hX dX0_isThere_18 ci_0 19 rfl ?_
    exact jj_retz (post := (fun (r : Int32) (w : XS) => Post r w)) (u := u) hX dX0_isThere_19 (Nat.le_refl 0) (Nat.le_refl 0) jx_hB jj_z0 h
  · have h := h.2 c11
    refine jj_iconst hX dX0_isThere_14 ci_1 15 rfl ?_
    refine jj_goto hX dX0_isThere_15 19 (by decide) ?_
    exact jj_retz (post := (fun (r : Int32) (w : XS) => Post r w)) (u := u) hX dX0_isThere_19 (Nat.le_refl 0) (Nat.le_refl 0) jx_hB jj_z1 h
theorem hd_xw0_isThere : yX0_isThere.cls ≠ "java/lang/invoke/MethodHandle" ∧ yX0_isThere.cls ≠ "java/lang/invoke/VarHandle" ∧ (parseMethodDescriptor yX0_isThere.desc).map (fun d => d.parameters.length) = some 1 := by decide +kernel
theorem kxw0_isThere {X : JC} {A : Nat → Prop} {Q : State → Prop} {nL k n pc : Nat} {lv : List (Nat × Value)} {st : List Value} {own : String} {cc : ByteArray} {ret : Option FieldType} {F LL mc ms ix : Nat} {D : va_G} {dA aK aV : Nat → Nat} {K : XK} {u : XS} {x0 : Nat} {x1 : Int32} {Post : Int32 → XS → Prop} (hX : JX X own cc nL ret F LL mc ms) (hY : JY X D dA aK aV A) (h1a : K x0 = (1, 0)) (hlk : (Cond.methodLink own ix yX0_isThere) ∈ lw_all) (hF : 0 + 1 ≤ F) (hL : 8 + (2 + 11) + 0 ≤ LL) (hk : k ≤ mc) (hk2 : n ≤ ms) (hw : (st.map fun v => v.category).sum ≤ 8) (d : decode cc pc = .ok (.invokevirtual ix, 3)) (q : Nat) (hq : pc + 3 = q) (h : xw0_isThere x0 x1 K u  Post) (kk : ∀ (r : Int32) (u2 : XS), jj_z r → Post r u2 → JJ X A Q nL (XP D dA A K u2) k n q lv (.int r :: st)) : JJ X A Q nL (XP D dA A K u) k n pc lv (.int x1 :: .ref x0 :: st) :=
  jx_callVz (na := 1) (As := [.int x1]) hX hY jf0 h1a (fun sz => mxw0_isThere (jj_l X) hY.2.2.2.2 D dA aK aV x0 x1 K u  Post h sz) hlk q1175 qs40 q120 q1176 ⟨rfl, hd_xw0_isThere⟩ rfl rfl hw hF hL hk hk2 d q hq kk
theorem knxw0_isThere {X : JC} {A : Nat → Prop} {Q : State → Prop} {nL k n pc : Nat} {lv : List (Nat × Value)} {st : List Value} {own : String} {cc : ByteArray} {ret : Option FieldType} {F LL mc ms ix : Nat} {D : va_G} {dA aK aV : Nat → Nat} {K : XK} {u : XS} {x0 : Nat} {x1 : Int32} {host : String} {Post : Int32 → XS → Prop} (hX : JX X own cc nL ret F LL mc ms) (hY : JY X D dA aK aV A) (h1a : K x0 = (1, 0)) (hlk : (Cond.methodLinkNest own ix yX0_isThere host) ∈ jx_nest) (hF : 0 + 1 ≤ F) (hL : 8 + (2 + 11) + 0 ≤ LL) (hk : k ≤ mc) (hk2 : n ≤ ms) (hw : (st.map fun v => v.category).sum ≤ 8) (d : decode cc pc = .ok (.invokevirtual ix, 3)) (q : Nat) (hq : pc + 3 = q) (h : xw0_isThere x0 x1 K u  Post) (kk : ∀ (r : Int32) (u2 : XS), jj_z r → Post r u2 → JJ X A Q nL (XP D dA A K u2) k n q lv (.int r :: st)) : JJ X A Q nL (XP D dA A K u) k n pc lv (.int x1 :: .ref x0 :: st) :=
  jx_callNz (na := 1) (As := [.int x1]) hX hY jf0 h1a (fun sz => mxw0_isThere (jj_l X) hY.2.2.2.2 D dA aK aV x0 x1 K u  Post h sz) hlk q1175 qs40 q120 q1176 hd_xw0_isThere rfl rfl hw hF hL hk hk2 d q hq kk
def xw0_useless_L21_S (Post : Int32 → XS → Prop) (K : XK) (x0 : Nat) (R : Int32 → Int32 → XS → Prop) (x1 : Int32) (x2 : Int32) (u : XS) : Prop :=
  K x0 = (1, 0) ∧
  xw0_table x0 K u (fun r23 u23 =>
    K r23 = (1, 5) ∧
    ((xi u23 r23 1) ≤ x2 →
      Post x1 u23) ∧
    (¬ (xi u23 r23 1) ≤ x2 →
      xw0_isThere x0 x2 K u23 (fun r35 u35 =>
        (r35 = 0 →
          ∀ v64 : Int32, v64 = (x1 ||| (0 : Int32)) →
          ∀ v65 : Int32, v65 = x2 + (1 : Int32) →
          R v64 v65 u35) ∧
        (¬ r35 = 0 →
          ∃ b45, (xr u35 x0 10) = some b45 ∧
          K b45 = (1, 4) ∧
          ∃ b48, (xr u35 b45 2) = some b48 ∧
          K b48 = (1, 15) ∧
          ∃ b52, (xr u35 b48 9) = some b52 ∧
          ∃ n52, K b52 = (2, n52) ∧
          vp_in x2 n52 ∧
          (¬ (xi u35 b52 x2.toNatClampNeg) = 0 →
            ∀ v64 : Int32, v64 = (x1 ||| (0 : Int32)) →
            ∀ v65 : Int32, v65 = x2 + (1 : Int32) →
            R v64 v65 u35) ∧
          ((xi u35 b52 x2.toNatClampNeg) = 0 →
            ∀ v64 : Int32, v64 = (x1 ||| ((1 : Int32) <<< (x2 &&& 31))) →
            ∀ v65 : Int32, v65 = x2 + (1 : Int32) →
            R v64 v65 u35)))))
def xw0_useless_L21 (Post : Int32 → XS → Prop) (K : XK) (x0 : Nat) : Nat → Int32 → Int32 → XS → Prop
  | 0 => fun _ _ _ => False
  | n + 1 => fun x1 x2 u => xw0_useless_L21_S Post K x0 (xw0_useless_L21 Post K x0 n) x1 x2 u
/-- RaisedPress.useless()I -/
def xw0_useless (x0 : Nat) (K : XK) (u : XS) (Post : Int32 → XS → Prop) : Prop :=
  K x0 = (1, 0) ∧
  xw0_whyNotSet x0 K u (fun r2 u2 =>
    ∀ u5 : XS, u5 = xsi u2 x0 7 r2 →
    ((xi u5 x0 7) ≤ 0 →
      ∃ n, xw0_useless_L21 Post K x0 n (0 : Int32) (0 : Int32) u5) ∧
    (¬ (xi u5 x0 7) ≤ 0 →
      Post (-1 : Int32) u5))
set_option maxHeartbeats 4000000 in
set_option maxRecDepth 100000 in
theorem txw0_useless_L21 {X : JC} {D : va_G} {dA aK aV : Nat → Nat} {sz : Nat} {K : XK} {Post : Int32 → XS → Prop} {x0 : Nat} (hX : JX X yX0_useless.cls cX0_useless 3 (Option.some Jvm.ClassFile.FieldType.int) 2 40 0 0) (hY : JY X D dA aK aV (AX K sz)) : ∀ (n : Nat) (x1 : Int32) (x2 : Int32) (u : XS), xw0_useless_L21 Post K x0 n x1 x2 u → JJ X (AX K sz) (jj_Q X (va_Qi (fun (r : Int32) (w : XS) => Post r w) (jx_B D dA K) (AX K sz)) 0 0 (AX K sz)) 3 (XP D dA (AX K sz) K u) 0 0 21 [(0, .ref x0), (1, .int x1), (2, .int x2)] [] := by
  intro n
  induction n with
  | zero =>
    intro x1 x2 u h
    exact h.elim
  | succ n ih =>
    intro x1 x2 u h
    have h : xw0_useless_L21_S Post K x0 (xw0_useless_L21 Post K x0 n) x1 x2 u := h
    unfold xw0_useless_L21_S at h
    refine jj_iload_n hX dX0_useless_21 2 rfl 22 rfl ?_
    refine jj_aload_n hX dX0_useless_22 0 rfl 23 rfl ?_
    obtain ⟨k23, h⟩ := h
    refine kxw0_table hX hY k23 q879 (Nat.le_of_ble_eq_true rfl) (Nat.le_of_ble_eq_true rfl) (Nat.zero_le _) (Nat.zero_le _) (Nat.le_of_ble_eq_true rfl) dX0_useless_23 26 rfl h (fun r23 u23 h => ?_)
    obtain ⟨k26, h⟩ := h
    refine xgn5_1 hX hY k26 dX0_useless_26 nq279 29 rfl ?_
    refine jj_icmp_ge hX dX0_useless_29 71 32 (by decide) rfl (fun c29 => ?_) (fun c29 => ?_)
    · have h := h.1 c29
      refine jj_iload_n hX dX0_useless_71 1 rfl 72 rfl ?_
      exact jj_reti (post := (fun (r : Int32) (w : XS) => Post r w)) (u := u23) hX dX0_useless_72 (Nat.le_refl 0) (Nat.le_refl 0) jx_hB h
    · have h := h.2 c29
      refine jj_iload_n hX dX0_useless_32 1 rfl 33 rfl ?_
      refine jj_aload_n hX dX0_useless_33 0 rfl 34 rfl ?_
      refine jj_iload_n hX dX0_useless_34 2 rfl 35 rfl ?_
      refine kxw0_isThere hX hY k23 q1173 (Nat.le_of_ble_eq_true rfl) (Nat.le_of_ble_eq_true rfl) (Nat.zero_le _) (Nat.zero_le _) (Nat.le_of_ble_eq_true rfl) dX0_useless_35 38 rfl h (fun r35 u35 hb35 h => ?_)
      refine jj_if_eq hX dX0_useless_38 62 41 (by decide) rfl (fun c38 => ?_) (fun c38 => ?_)
      · have h := h.1 c38
        refine jj_iconst hX dX0_useless_62 ci_0 63 rfl ?_
        refine jj_ior hX dX0_useless_63 64 rfl ?_
        refine jj_topi (fun v64 e64 => ?_)
        have h := h v64 e64
        refine jj_istore_n (lv2 := [(0, .ref x0), (1, .int v64), (2, .int x2)]) hX dX0_useless_64 (Nat.le_of_ble_eq_true rfl) [1, 0, 2] rfl 65 rfl ?_
        obtain ⟨v65, e65⟩ : ∃ y : Int32, y = x2 + (1 : Int32) := ⟨_, rfl⟩
        have h := h v65 e65
        refine jj_iinc (v := v65) (lv2 := [(0, .ref x0), (1, .int v64), (2, .int v65)]) hX dX0_useless_65 2 rfl (by rw [e65, ci_1]) (Nat.le_of_ble_eq_true rfl) [1, 2, 0] rfl 68 rfl ?_
        refine jj_goto hX dX0_useless_68 21 (by decide) ?_
        exact ih _ _ _ h
      · have h := h.2 c38
        refine jj_aload_n hX dX0_useless_41 0 rfl 42 rfl ?_
        refine xg0_10 hX hY k23 dX0_useless_42 q421 45 rfl ?_
        obtain ⟨b45, g45, h⟩ := h
        refine jj_st (st2 := [.ref b45, .int x1]) (by rw [va_rf_some g45]) ?_
        obtain ⟨k45, h⟩ := h
        refine xgn4_2 hX hY k45 dX0_useless_45 nq319 48 rfl ?_
        obtain ⟨b48, g48, h⟩ := h
        refine jj_st (st2 := [.ref b48, .int x1]) (by rw [va_rf_some g48]) ?_
        obtain ⟨k48, h⟩ := h
        refine xgn15_9 hX hY k48 dX0_useless_48 nq1027 51 rfl ?_
        refine jj_iload_n hX dX0_useless_51 2 rfl 52 rfl ?_
        obtain ⟨b52, g52, h⟩ := h
        refine jj_st (st2 := [.int x2, .ref b52, .int x1]) (by rw [va_rf_some g52]) ?_
        obtain ⟨n52, k52, h⟩ := h
        obtain ⟨hi52, h⟩ := h
        refine jx_iald hX hY.1 k52 _ rfl hi52 dX0_useless_52 53 rfl ?_
        refine jj_if_ne hX dX0_useless_53 62 56 (by decide) rfl (fun c53 => ?_) (fun c53 => ?_)
        · have h := h.1 c53
          refine jj_iconst hX dX0_useless_62 ci_0 63 rfl ?_
          refine jj_ior hX dX0_useless_63 64 rfl ?_
          refine jj_topi (fun v64 e64 => ?_)
          have h := h v64 e64
          refine jj_istore_n (lv2 := [(0, .ref x0), (1, .int v64), (2, .int x2)]) hX dX0_useless_64 (Nat.le_of_ble_eq_true rfl) [1, 0, 2] rfl 65 rfl ?_
          obtain ⟨v65, e65⟩ : ∃ y : Int32, y = x2 + (1 : Int32) := ⟨_, rfl⟩
          have h := h v65 e65
          refine jj_iinc (v := v65) (lv2 := [(0, .ref x0), (1, .int v64), (2, .int v65)]) hX dX0_useless_65 2 rfl (by rw [e65, ci_1]) (Nat.le_of_ble_eq_true rfl) [1, 2, 0] rfl 68 rfl ?_
          refine jj_goto hX dX0_useless_68 21 (by decide) ?_
          exact ih _ _ _ h
        · have h := h.2 c53
          refine jj_iconst hX dX0_useless_56 ci_1 57 rfl ?_
          refine jj_iload_n hX dX0_useless_57 2 rfl 58 rfl ?_
          refine jj_ishl hX dX0_useless_58 59 rfl ?_
          refine jj_goto hX dX0_useless_59 63 (by decide) ?_
          refine jj_ior hX dX0_useless_63 64 rfl ?_
          refine jj_topi (fun v64 e64 => ?_)
          have h := h v64 e64
          refine jj_istore_n (lv2 := [(0, .ref x0), (1, .int v64), (2, .int x2)]) hX dX0_useless_64 (Nat.le_of_ble_eq_true rfl) [1, 0, 2] rfl 65 rfl ?_
          obtain ⟨v65, e65⟩ : ∃ y : Int32, y = x2 + (1 : Int32) := ⟨_, rfl⟩
          have h := h v65 e65
          refine jj_iinc (v := v65) (lv2 := [(0, .ref x0), (1, .int v64), (2, .int v65)]) hX dX0_useless_65 2 rfl (by rw [e65, ci_1]) (Nat.le_of_ble_eq_true rfl) [1, 2, 0] rfl 68 rfl ?_
          refine jj_goto hX dX0_useless_68 21 (by decide) ?_
          exact ih _ _ _ h
set_option maxHeartbeats 4000000 in
set_option maxRecDepth 100000 in
theorem mxw0_useless (l : Launch) (hfl : l.stackTraces = false) (D : va_G) (dA aK aV : Nat → Nat) (x0 : Nat) (K : XK) (u : XS) (Post : Int32 → XS → Prop) (h : xw0_useless x0 K u Post) (sz : Nat) : Met l yX0_useless (ws_ yX0_useless cX0_useless 3 (Option.some Jvm.ClassFile.FieldType.int)) (jx_rm 2 40 0 0) (jx_Pc D dA aK aV K u sz [.ref x0]) (va_Qi (fun (r : Int32) (w : XS) => Post r w) (jx_B D dA K) (AX K sz)) 0 0 (AX K sz) := by
  refine jx_start hfl [.ref x0] [(0, .ref x0)] (by decide) (Nat.le_of_ble_eq_true rfl) rfl (fun X hX hY hin => ?_)
  unfold xw0_useless at h
  refine jj_aload_n hX dX0_useless_0 0 rfl 1 rfl ?_
  refine jj_aload_n hX dX0_useless_1 0 rfl 2 rfl ?_
  obtain ⟨k2, h⟩ := h
  refine kxw0_whyNotSet hX hY k2 q1111 (Nat.le_of_ble_eq_true rfl) (Nat.le_of_ble_eq_true rfl) (Nat.zero_le _) (Nat.zero_le _) (Nat.le_of_ble_eq_true rfl) dX0_useless_2 5 rfl h (fun r2 u2 h => ?_)
  refine xp0_7 hX hY k2 dX0_useless_5 q418 8 rfl (fun u5 e5 => ?_)
  have h := h u5 e5
  refine jj_aload_n hX dX0_useless_8 0 rfl 9 rfl ?_
  refine xg0_7 hX hY k2 dX0_useless_9 q418 12 rfl ?_
  refine jj_if_le hX dX0_useless_12 17 15 (by decide) rfl (fun c12 => ?_) (fun c12 => ?_)
  · have h := h.1 c12
    refine jj_iconst hX dX0_useless_17 ci_0 18 rfl ?_
    refine jj_istore_n (lv2 := [(0, .ref x0), (1, .int (0 : Int32))]) hX dX0_useless_18 (Nat.le_of_ble_eq_true rfl) [1, 0] rfl 19 rfl ?_
    refine jj_iconst hX dX0_useless_19 ci_0 20 rfl ?_
    refine jj_istore_n (lv2 := [(0, .ref x0), (1, .int (0 : Int32)), (2, .int (0 : Int32))]) hX dX0_useless_20 (Nat.le_of_ble_eq_true rfl) [1, 2, 0] rfl 21 rfl ?_
    obtain ⟨n9, h⟩ := h
    exact txw0_useless_L21 hX hY n9 _ _ _ h
  · have h := h.2 c12
    refine jj_iconst hX dX0_useless_15 ci_m1 16 rfl ?_
    exact jj_reti (post := (fun (r : Int32) (w : XS) => Post r w)) (u := u5) hX dX0_useless_16 (Nat.le_refl 0) (Nat.le_refl 0) jx_hB h
theorem hd_xw0_useless : yX0_useless.cls ≠ "java/lang/invoke/MethodHandle" ∧ yX0_useless.cls ≠ "java/lang/invoke/VarHandle" ∧ (parseMethodDescriptor yX0_useless.desc).map (fun d => d.parameters.length) = some 0 := by decide +kernel
theorem kxw0_useless {X : JC} {A : Nat → Prop} {Q : State → Prop} {nL k n pc : Nat} {lv : List (Nat × Value)} {st : List Value} {own : String} {cc : ByteArray} {ret : Option FieldType} {F LL mc ms ix : Nat} {D : va_G} {dA aK aV : Nat → Nat} {K : XK} {u : XS} {x0 : Nat} {Post : Int32 → XS → Prop} (hX : JX X own cc nL ret F LL mc ms) (hY : JY X D dA aK aV A) (h1a : K x0 = (1, 0)) (hlk : (Cond.methodLink own ix yX0_useless) ∈ lw_all) (hF : 2 + 1 ≤ F) (hL : 8 + (3 + 11) + 40 ≤ LL) (hk : k ≤ mc) (hk2 : n ≤ ms) (hw : (st.map fun v => v.category).sum ≤ 8) (d : decode cc pc = .ok (.invokevirtual ix, 3)) (q : Nat) (hq : pc + 3 = q) (h : xw0_useless x0 K u  Post) (kk : ∀ (r : Int32) (u2 : XS), Post r u2 → JJ X A Q nL (XP D dA A K u2) k n q lv (.int r :: st)) : JJ X A Q nL (XP D dA A K u) k n pc lv (.ref x0 :: st) :=
  jx_callVi (na := 0) (As := []) hX hY jf0 h1a (fun sz => mxw0_useless (jj_l X) hY.2.2.2.2 D dA aK aV x0 K u  Post h sz) hlk q1170 q1171 q120 q1172 ⟨rfl, hd_xw0_useless⟩ rfl rfl hw hF hL hk hk2 d q hq kk
theorem knxw0_useless {X : JC} {A : Nat → Prop} {Q : State → Prop} {nL k n pc : Nat} {lv : List (Nat × Value)} {st : List Value} {own : String} {cc : ByteArray} {ret : Option FieldType} {F LL mc ms ix : Nat} {D : va_G} {dA aK aV : Nat → Nat} {K : XK} {u : XS} {x0 : Nat} {host : String} {Post : Int32 → XS → Prop} (hX : JX X own cc nL ret F LL mc ms) (hY : JY X D dA aK aV A) (h1a : K x0 = (1, 0)) (hlk : (Cond.methodLinkNest own ix yX0_useless host) ∈ jx_nest) (hF : 2 + 1 ≤ F) (hL : 8 + (3 + 11) + 40 ≤ LL) (hk : k ≤ mc) (hk2 : n ≤ ms) (hw : (st.map fun v => v.category).sum ≤ 8) (d : decode cc pc = .ok (.invokevirtual ix, 3)) (q : Nat) (hq : pc + 3 = q) (h : xw0_useless x0 K u  Post) (kk : ∀ (r : Int32) (u2 : XS), Post r u2 → JJ X A Q nL (XP D dA A K u2) k n q lv (.int r :: st)) : JJ X A Q nL (XP D dA A K u) k n pc lv (.ref x0 :: st) :=
  jx_callNi (na := 0) (As := []) hX hY jf0 h1a (fun sz => mxw0_useless (jj_l X) hY.2.2.2.2 D dA aK aV x0 K u  Post h sz) hlk q1170 q1171 q120 q1172 hd_xw0_useless rfl rfl hw hF hL hk hk2 d q hq kk
/-- java/lang/Integer.bitCount(I)I -/
def js_bitCount (x0 : Int32) (Post : Int32 → Prop) : Prop :=
  ∀ v9 : Int32, v9 = (x0 - ((x0.toUInt32 >>> ((1 : Int32).toUInt32 &&& Int32.toUInt32 31)).toInt32 &&& (1431655765 : Int32))) →
  ∀ v23 : Int32, v23 = ((v9 &&& (858993459 : Int32)) + ((v9.toUInt32 >>> ((2 : Int32).toUInt32 &&& Int32.toUInt32 31)).toInt32 &&& (858993459 : Int32))) →
  ∀ v33 : Int32, v33 = ((v23 + (v23.toUInt32 >>> ((4 : Int32).toUInt32 &&& Int32.toUInt32 31)).toInt32) &&& (252645135 : Int32)) →
  ∀ v40 : Int32, v40 = (v33 + (v33.toUInt32 >>> ((8 : Int32).toUInt32 &&& Int32.toUInt32 31)).toInt32) →
  ∀ v47 : Int32, v47 = (v40 + (v40.toUInt32 >>> ((16 : Int32).toUInt32 &&& Int32.toUInt32 31)).toInt32) →
  Post (v47 &&& (63 : Int32))
set_option maxHeartbeats 4000000 in
set_option maxRecDepth 100000 in
theorem mjs_bitCount (l : Launch) (x0 : Int32) (Post : Int32 → Prop) (h : js_bitCount x0 Post) : Met l yJ11_bitCount (ws_ yJ11_bitCount cJ11_bitCount 1 (Option.some Jvm.ClassFile.FieldType.int)) (jm_rm 0 0) (js_Pc [.int x0]) (va_Qi (fun r (_ : Unit) => Post r) js_B js_A) 0 0 js_A := by
  refine js_start [.int x0] [(0, .int x0)] (by decide) (Nat.le_of_ble_eq_true rfl) rfl (fun X hX => ?_)
  unfold js_bitCount at h
  refine jj_iload_n hX dJ11_bitCount_0 0 rfl 1 rfl ?_
  refine jj_iload_n hX dJ11_bitCount_1 0 rfl 2 rfl ?_
  refine jj_iconst hX dJ11_bitCount_2 ci_1 3 rfl ?_
  refine jj_iushr hX dJ11_bitCount_3 4 rfl ?_
  refine jj_ldcw (v := 1431655765) hX dJ11_bitCount_4 q1184 7 rfl ?_
  refine jj_iand hX dJ11_bitCount_7 8 rfl ?_
  refine jj_isub hX dJ11_bitCount_8 9 rfl ?_
  refine jj_topi (fun v9 e9 => ?_)
  have h := h v9 e9
  refine jj_istore_n (lv2 := [(0, .int v9)]) hX dJ11_bitCount_9 (Nat.le_of_ble_eq_true rfl) [0] rfl 10 rfl ?_
  refine jj_iload_n hX dJ11_bitCount_10 0 rfl 11 rfl ?_
  refine jj_ldcw (v := 858993459) hX dJ11_bitCount_11 q1185 14 rfl ?_
  refine jj_iand hX dJ11_bitCount_14 15 rfl ?_
  refine jj_iload_n hX dJ11_bitCount_15 0 rfl 16 rfl ?_
  refine jj_iconst hX dJ11_bitCount_16 ci_2 17 rfl ?_
  refine jj_iushr hX dJ11_bitCount_17 18 rfl ?_
  refine jj_ldcw (v := 858993459) hX dJ11_bitCount_18 q1185 21 rfl ?_
  refine jj_iand hX dJ11_bitCount_21 22 rfl ?_
  refine jj_iadd hX dJ11_bitCount_22 23 rfl ?_
  refine jj_topi (fun v23 e23 => ?_)
  have h := h v23 e23
  refine jj_istore_n (lv2 := [(0, .int v23)]) hX dJ11_bitCount_23 (Nat.le_of_ble_eq_true rfl) [0] rfl 24 rfl ?_
  refine jj_iload_n hX dJ11_bitCount_24 0 rfl 25 rfl ?_
  refine jj_iload_n hX dJ11_bitCount_25 0 rfl 26 rfl ?_
  refine jj_iconst hX dJ11_bitCount_26 ci_4 27 rfl ?_
  refine jj_iushr hX dJ11_bitCount_27 28 rfl ?_
  refine jj_iadd hX dJ11_bitCount_28 29 rfl ?_
  refine jj_ldcw (v := 252645135) hX dJ11_bitCount_29 q1186 32 rfl ?_
  refine jj_iand hX dJ11_bitCount_32 33 rfl ?_
  refine jj_topi (fun v33 e33 => ?_)
  have h := h v33 e33
  refine jj_istore_n (lv2 := [(0, .int v33)]) hX dJ11_bitCount_33 (Nat.le_of_ble_eq_true rfl) [0] rfl 34 rfl ?_
  refine jj_iload_n hX dJ11_bitCount_34 0 rfl 35 rfl ?_
  refine jj_iload_n hX dJ11_bitCount_35 0 rfl 36 rfl ?_
  refine jj_bipush hX dJ11_bitCount_36 cb_8 38 rfl ?_
  refine jj_iushr hX dJ11_bitCount_38 39 rfl ?_
  refine jj_iadd hX dJ11_bitCount_39 40 rfl ?_
  refine jj_topi (fun v40 e40 => ?_)
  have h := h v40 e40
  refine jj_istore_n (lv2 := [(0, .int v40)]) hX dJ11_bitCount_40 (Nat.le_of_ble_eq_true rfl) [0] rfl 41 rfl ?_
  refine jj_iload_n hX dJ11_bitCount_41 0 rfl 42 rfl ?_
  refine jj_iload_n hX dJ11_bitCount_42 0 rfl 43 rfl ?_
  refine jj_bipush hX dJ11_bitCount_43 cb_16 45 rfl ?_
  refine jj_iushr hX dJ11_bitCount_45 46 rfl ?_
  refine jj_iadd hX dJ11_bitCount_46 47 rfl ?_
  refine jj_topi (fun v47 e47 => ?_)
  have h := h v47 e47
  refine jj_istore_n (lv2 := [(0, .int v47)]) hX dJ11_bitCount_47 (Nat.le_of_ble_eq_true rfl) [0] rfl 48 rfl ?_
  refine jj_iload_n hX dJ11_bitCount_48 0 rfl 49 rfl ?_
  refine jj_bipush hX dJ11_bitCount_49 cb_63 51 rfl ?_
  refine jj_iand hX dJ11_bitCount_51 52 rfl ?_
  exact jj_reti (post := (fun r (_ : Unit) => Post r)) (u := ()) hX dJ11_bitCount_52 (Nat.le_refl 0) (Nat.le_refl 0) js_hB h
theorem hd_js_bitCount : yJ11_bitCount.cls ≠ "java/lang/invoke/MethodHandle" ∧ yJ11_bitCount.cls ≠ "java/lang/invoke/VarHandle" ∧ (parseMethodDescriptor yJ11_bitCount.desc).map (fun d => d.parameters.length) = some 1 := by decide +kernel
theorem kjs_bitCount {X : JC} {A : Nat → Prop} {Q : State → Prop} {P : Heap → Prop} {nL k n pc : Nat} {lv : List (Nat × Value)} {st : List Value} {own : String} {cc : ByteArray} {ret : Option FieldType} {F LL mc ms ix : Nat} {x0 : Int32} {Post : Int32 → Prop} (hX : JX X own cc nL ret F LL mc ms) (hKP : jj_Keeps P) (hlk : (Cond.methodLink own ix yJ11_bitCount) ∈ lw_all) (hF : 0 + 1 ≤ F) (hL : 8 + (1 + 11) + 0 ≤ LL) (hk : k ≤ mc) (hk2 : n ≤ ms) (hw : (st.map fun v => v.category).sum ≤ 8) (d : decode cc pc = .ok (.invokestatic ix, 3)) (q : Nat) (hq : pc + 3 = q) (h : js_bitCount x0 Post) (kk : ∀ r : Int32, Post r → JJ X A Q nL P k n q lv (.int r :: st)) : JJ X A Q nL P k n pc lv (.int x0 :: st) :=
  js_calli (na := 1) (As := [.int x0]) hX hKP (mjs_bitCount (jj_l X) x0 Post h) hlk q1182 q148 q1183 hd_js_bitCount rfl rfl hw hF hL hk hk2 d q hq kk
def xw0_dots_L21_S (Post : Int32 → XS → Prop) (K : XK) (x0 : Nat) (R : Int32 → Int32 → XS → Prop) (x1 : Int32) (x2 : Int32) (u : XS) : Prop :=
  K x0 = (1, 0) ∧
  ∃ b26, (xr u x0 10) = some b26 ∧
  K b26 = (1, 4) ∧
  ∃ b29, (xr u b26 2) = some b29 ∧
  K b29 = (1, 15) ∧
  ∃ b32, (xr u b29 1) = some b32 ∧
  ∃ n32, K b32 = (2, n32) ∧
  ((nI n32) ≤ x2 →
    Post x1 u) ∧
  (¬ (nI n32) ≤ x2 →
    ∃ b41, (xr u x0 10) = some b41 ∧
    K b41 = (1, 4) ∧
    ∃ b44, (xr u b41 2) = some b44 ∧
    K b44 = (1, 15) ∧
    ∃ b48, (xr u b44 1) = some b48 ∧
    ∃ n48, K b48 = (2, n48) ∧
    vp_in x2 n48 ∧
    js_bitCount (xi u b48 x2.toNatClampNeg) (fun r49 =>
      ∀ v53 : Int32, v53 = (x1 + r49) →
      ∀ v54 : Int32, v54 = x2 + (1 : Int32) →
      R v53 v54 u))
def xw0_dots_L21 (Post : Int32 → XS → Prop) (K : XK) (x0 : Nat) : Nat → Int32 → Int32 → XS → Prop
  | 0 => fun _ _ _ => False
  | n + 1 => fun x1 x2 u => xw0_dots_L21_S Post K x0 (xw0_dots_L21 Post K x0 n) x1 x2 u
/-- RaisedPress.dots()I -/
def xw0_dots (x0 : Nat) (K : XK) (u : XS) (Post : Int32 → XS → Prop) : Prop :=
  K x0 = (1, 0) ∧
  xw0_whyNotSet x0 K u (fun r2 u2 =>
    ∀ u5 : XS, u5 = xsi u2 x0 7 r2 →
    ((xi u5 x0 7) ≤ 0 →
      ∃ n, xw0_dots_L21 Post K x0 n (0 : Int32) (0 : Int32) u5) ∧
    (¬ (xi u5 x0 7) ≤ 0 →
      Post (-1 : Int32) u5))
set_option maxHeartbeats 4000000 in
set_option maxRecDepth 100000 in
theorem txw0_dots_L21 {X : JC} {D : va_G} {dA aK aV : Nat → Nat} {sz : Nat} {K : XK} {Post : Int32 → XS → Prop} {x0 : Nat} (hX : JX X yX0_dots.cls cX0_dots 3 (Option.some Jvm.ClassFile.FieldType.int) 2 40 0 0) (hY : JY X D dA aK aV (AX K sz)) : ∀ (n : Nat) (x1 : Int32) (x2 : Int32) (u : XS), xw0_dots_L21 Post K x0 n x1 x2 u → JJ X (AX K sz) (jj_Q X (va_Qi (fun (r : Int32) (w : XS) => Post r w) (jx_B D dA K) (AX K sz)) 0 0 (AX K sz)) 3 (XP D dA (AX K sz) K u) 0 0 21 [(0, .ref x0), (1, .int x1), (2, .int x2)] [] := by
  intro n
  induction n with
  | zero =>
    intro x1 x2 u h
    exact h.elim
  | succ n ih =>
    intro x1 x2 u h
    have h : xw0_dots_L21_S Post K x0 (xw0_dots_L21 Post K x0 n) x1 x2 u := h
    unfold xw0_dots_L21_S at h
    refine jj_iload_n hX dX0_dots_21 2 rfl 22 rfl ?_
    refine jj_aload_n hX dX0_dots_22 0 rfl 23 rfl ?_
    obtain ⟨k23, h⟩ := h
    refine xg0_10 hX hY k23 dX0_dots_23 q421 26 rfl ?_
    obtain ⟨b26, g26, h⟩ := h
    refine jj_st (st2 := [.ref b26, .int x2]) (by rw [va_rf_some g26]) ?_
    obtain ⟨k26, h⟩ := h
    refine xgn4_2 hX hY k26 dX0_dots_26 nq319 29 rfl ?_
    obtain ⟨b29, g29, h⟩ := h
    refine jj_st (st2 := [.ref b29, .int x2]) (by rw [va_rf_some g29]) ?_
    obtain ⟨k29, h⟩ := h
    refine xgn15_1 hX hY k29 dX0_dots_29 nq1003 32 rfl ?_
    obtain ⟨b32, g32, h⟩ := h
    refine jj_st (st2 := [.ref b32, .int x2]) (by rw [va_rf_some g32]) ?_
    obtain ⟨n32, k32, h⟩ := h
    refine jx_alen hX hY.1 k32 dX0_dots_32 33 rfl ?_
    refine jj_icmp_ge hX dX0_dots_33 60 36 (by decide) rfl (fun c33 => ?_) (fun c33 => ?_)
    · have h := h.1 c33
      refine jj_iload_n hX dX0_dots_60 1 rfl 61 rfl ?_
      exact jj_reti (post := (fun (r : Int32) (w : XS) => Post r w)) (u := u) hX dX0_dots_61 (Nat.le_refl 0) (Nat.le_refl 0) jx_hB h
    · have h := h.2 c33
      refine jj_iload_n hX dX0_dots_36 1 rfl 37 rfl ?_
      refine jj_aload_n hX dX0_dots_37 0 rfl 38 rfl ?_
      refine xg0_10 hX hY k23 dX0_dots_38 q421 41 rfl ?_
      obtain ⟨b41, g41, h⟩ := h
      refine jj_st (st2 := [.ref b41, .int x1]) (by rw [va_rf_some g41]) ?_
      obtain ⟨k41, h⟩ := h
      refine xgn4_2 hX hY k41 dX0_dots_41 nq319 44 rfl ?_
      obtain ⟨b44, g44, h⟩ := h
      refine jj_st (st2 := [.ref b44, .int x1]) (by rw [va_rf_some g44]) ?_
      obtain ⟨k44, h⟩ := h
      refine xgn15_1 hX hY k44 dX0_dots_44 nq1003 47 rfl ?_
      refine jj_iload_n hX dX0_dots_47 2 rfl 48 rfl ?_
      obtain ⟨b48, g48, h⟩ := h
      refine jj_st (st2 := [.int x2, .ref b48, .int x1]) (by rw [va_rf_some g48]) ?_
      obtain ⟨n48, k48, h⟩ := h
      obtain ⟨hi48, h⟩ := h
      refine jx_iald hX hY.1 k48 _ rfl hi48 dX0_dots_48 49 rfl ?_
      refine kjs_bitCount hX XP.keeps q1181 (Nat.le_of_ble_eq_true rfl) (Nat.le_of_ble_eq_true rfl) (Nat.zero_le _) (Nat.zero_le _) (Nat.le_of_ble_eq_true rfl) dX0_dots_49 52 rfl h (fun r49 h => ?_)
      refine jj_iadd hX dX0_dots_52 53 rfl ?_
      refine jj_topi (fun v53 e53 => ?_)
      have h := h v53 e53
      refine jj_istore_n (lv2 := [(0, .ref x0), (1, .int v53), (2, .int x2)]) hX dX0_dots_53 (Nat.le_of_ble_eq_true rfl) [1, 0, 2] rfl 54 rfl ?_
      obtain ⟨v54, e54⟩ : ∃ y : Int32, y = x2 + (1 : Int32) := ⟨_, rfl⟩
      have h := h v54 e54
      refine jj_iinc (v := v54) (lv2 := [(0, .ref x0), (1, .int v53), (2, .int v54)]) hX dX0_dots_54 2 rfl (by rw [e54, ci_1]) (Nat.le_of_ble_eq_true rfl) [1, 2, 0] rfl 57 rfl ?_
      refine jj_goto hX dX0_dots_57 21 (by decide) ?_
      exact ih _ _ _ h
set_option maxHeartbeats 4000000 in
set_option maxRecDepth 100000 in
theorem mxw0_dots (l : Launch) (hfl : l.stackTraces = false) (D : va_G) (dA aK aV : Nat → Nat) (x0 : Nat) (K : XK) (u : XS) (Post : Int32 → XS → Prop) (h : xw0_dots x0 K u Post) (sz : Nat) : Met l yX0_dots (ws_ yX0_dots cX0_dots 3 (Option.some Jvm.ClassFile.FieldType.int)) (jx_rm 2 40 0 0) (jx_Pc D dA aK aV K u sz [.ref x0]) (va_Qi (fun (r : Int32) (w : XS) => Post r w) (jx_B D dA K) (AX K sz)) 0 0 (AX K sz) := by
  refine jx_start hfl [.ref x0] [(0, .ref x0)] (by decide) (Nat.le_of_ble_eq_true rfl) rfl (fun X hX hY hin => ?_)
  unfold xw0_dots at h
  refine jj_aload_n hX dX0_dots_0 0 rfl 1 rfl ?_
  refine jj_aload_n hX dX0_dots_1 0 rfl 2 rfl ?_
  obtain ⟨k2, h⟩ := h
  refine kxw0_whyNotSet hX hY k2 q1111 (Nat.le_of_ble_eq_true rfl) (Nat.le_of_ble_eq_true rfl) (Nat.zero_le _) (Nat.zero_le _) (Nat.le_of_ble_eq_true rfl) dX0_dots_2 5 rfl h (fun r2 u2 h => ?_)
  refine xp0_7 hX hY k2 dX0_dots_5 q418 8 rfl (fun u5 e5 => ?_)
  have h := h u5 e5
  refine jj_aload_n hX dX0_dots_8 0 rfl 9 rfl ?_
  refine xg0_7 hX hY k2 dX0_dots_9 q418 12 rfl ?_
  refine jj_if_le hX dX0_dots_12 17 15 (by decide) rfl (fun c12 => ?_) (fun c12 => ?_)
  · have h := h.1 c12
    refine jj_iconst hX dX0_dots_17 ci_0 18 rfl ?_
    refine jj_istore_n (lv2 := [(0, .ref x0), (1, .int (0 : Int32))]) hX dX0_dots_18 (Nat.le_of_ble_eq_true rfl) [1, 0] rfl 19 rfl ?_
    refine jj_iconst hX dX0_dots_19 ci_0 20 rfl ?_
    refine jj_istore_n (lv2 := [(0, .ref x0), (1, .int (0 : Int32)), (2, .int (0 : Int32))]) hX dX0_dots_20 (Nat.le_of_ble_eq_true rfl) [1, 2, 0] rfl 21 rfl ?_
    obtain ⟨n9, h⟩ := h
    exact txw0_dots_L21 hX hY n9 _ _ _ h
  · have h := h.2 c12
    refine jj_iconst hX dX0_dots_15 ci_m1 16 rfl ?_
    exact jj_reti (post := (fun (r : Int32) (w : XS) => Post r w)) (u := u5) hX dX0_dots_16 (Nat.le_refl 0) (Nat.le_refl 0) jx_hB h
theorem hd_xw0_dots : yX0_dots.cls ≠ "java/lang/invoke/MethodHandle" ∧ yX0_dots.cls ≠ "java/lang/invoke/VarHandle" ∧ (parseMethodDescriptor yX0_dots.desc).map (fun d => d.parameters.length) = some 0 := by decide +kernel
theorem kxw0_dots {X : JC} {A : Nat → Prop} {Q : State → Prop} {nL k n pc : Nat} {lv : List (Nat × Value)} {st : List Value} {own : String} {cc : ByteArray} {ret : Option FieldType} {F LL mc ms ix : Nat} {D : va_G} {dA aK aV : Nat → Nat} {K : XK} {u : XS} {x0 : Nat} {Post : Int32 → XS → Prop} (hX : JX X own cc nL ret F LL mc ms) (hY : JY X D dA aK aV A) (h1a : K x0 = (1, 0)) (hlk : (Cond.methodLink own ix yX0_dots) ∈ lw_all) (hF : 2 + 1 ≤ F) (hL : 8 + (3 + 11) + 40 ≤ LL) (hk : k ≤ mc) (hk2 : n ≤ ms) (hw : (st.map fun v => v.category).sum ≤ 8) (d : decode cc pc = .ok (.invokevirtual ix, 3)) (q : Nat) (hq : pc + 3 = q) (h : xw0_dots x0 K u  Post) (kk : ∀ (r : Int32) (u2 : XS), Post r u2 → JJ X A Q nL (XP D dA A K u2) k n q lv (.int r :: st)) : JJ X A Q nL (XP D dA A K u) k n pc lv (.ref x0 :: st) :=
  jx_callVi (na := 0) (As := []) hX hY jf0 h1a (fun sz => mxw0_dots (jj_l X) hY.2.2.2.2 D dA aK aV x0 K u  Post h sz) hlk q1178 q1179 q120 q1180 ⟨rfl, hd_xw0_dots⟩ rfl rfl hw hF hL hk hk2 d q hq kk
theorem knxw0_dots {X : JC} {A : Nat → Prop} {Q : State → Prop} {nL k n pc : Nat} {lv : List (Nat × Value)} {st : List Value} {own : String} {cc : ByteArray} {ret : Option FieldType} {F LL mc ms ix : Nat} {D : va_G} {dA aK aV : Nat → Nat} {K : XK} {u : XS} {x0 : Nat} {host : String} {Post : Int32 → XS → Prop} (hX : JX X own cc nL ret F LL mc ms) (hY : JY X D dA aK aV A) (h1a : K x0 = (1, 0)) (hlk : (Cond.methodLinkNest own ix yX0_dots host) ∈ jx_nest) (hF : 2 + 1 ≤ F) (hL : 8 + (3 + 11) + 40 ≤ LL) (hk : k ≤ mc) (hk2 : n ≤ ms) (hw : (st.map fun v => v.category).sum ≤ 8) (d : decode cc pc = .ok (.invokevirtual ix, 3)) (q : Nat) (hq : pc + 3 = q) (h : xw0_dots x0 K u  Post) (kk : ∀ (r : Int32) (u2 : XS), Post r u2 → JJ X A Q nL (XP D dA A K u2) k n q lv (.int r :: st)) : JJ X A Q nL (XP D dA A K u) k n pc lv (.ref x0 :: st) :=
  jx_callNi (na := 0) (As := []) hX hY jf0 h1a (fun sz => mxw0_dots (jj_l X) hY.2.2.2.2 D dA aK aV x0 K u  Post h sz) hlk q1178 q1179 q120 q1180 hd_xw0_dots rfl rfl hw hF hL hk hk2 d q hq kk
def xw6_plain_L4_S (Post : Int32 → XS → Prop) (K : XK) (x0 : Nat) (R : Int32 → Int32 → XS → Prop) (x1 : Int32) (x2 : Int32) (u : XS) : Prop :=
  K x0 = (1, 6) ∧
  ((xi u x0 3) ≤ x2 →
    Post x1 u) ∧
  (¬ (xi u x0 3) ≤ x2 →
    ∃ b17, (xr u x0 2) = some b17 ∧
    ∃ n17, K b17 = (3, n17) ∧
    vp_in x2 n17 ∧
    xs_isLetter (xi u b17 x2.toNatClampNeg) (fun r18 =>
      (¬ r18 = 0 →
        ∃ b33, (xr u x0 2) = some b33 ∧
        ∃ n33, K b33 = (3, n33) ∧
        vp_in x2 n33 ∧
        xs_small (xi u b33 x2.toNatClampNeg) (fun r34 =>
          xw6_justFor x0 r34 K u (fun r37 u37 =>
            (0 ≤ r37 →
              ∃ b52, (xr u37 x0 0) = some b52 ∧
              K b52 = (1, 5) ∧
              ∃ b56, (xr u37 b52 0) = some b56 ∧
              ∃ n56, K b56 = (7, n56) ∧
              vp_in r37 n56 ∧
              ∃ b57, (xr u37 b56 r37.toNatClampNeg) = some b57 ∧
              xRule K b57 ∧
              ∃ b60, (xr u37 b57 1) = some b60 ∧
              ∃ n60, K b60 = (2, n60) ∧
              ∀ v62 : Int32, v62 = (x1 + (nI n60)) →
              ∀ v63 : Int32, v63 = x2 + (1 : Int32) →
              R v62 v63 u37) ∧
            (¬ 0 ≤ r37 →
              Post (-1 : Int32) u37)))) ∧
      (r18 = 0 →
        ∀ v63 : Int32, v63 = x2 + (1 : Int32) →
        R x1 v63 u)))
def xw6_plain_L4 (Post : Int32 → XS → Prop) (K : XK) (x0 : Nat) : Nat → Int32 → Int32 → XS → Prop
  | 0 => fun _ _ _ => False
  | n + 1 => fun x1 x2 u => xw6_plain_L4_S Post K x0 (xw6_plain_L4 Post K x0 n) x1 x2 u
/-- RaisedPress$Setter.plain()I -/
def xw6_plain (x0 : Nat) (K : XK) (u : XS) (Post : Int32 → XS → Prop) : Prop :=
  ∃ n, xw6_plain_L4 Post K x0 n (0 : Int32) (0 : Int32) u
set_option maxHeartbeats 4000000 in
set_option maxRecDepth 100000 in
theorem txw6_plain_L4 {X : JC} {D : va_G} {dA aK aV : Nat → Nat} {sz : Nat} {K : XK} {Post : Int32 → XS → Prop} {x0 : Nat} (hX : JX X yX6_plain.cls cX6_plain 4 (Option.some Jvm.ClassFile.FieldType.int) 3 63 0 0) (hY : JY X D dA aK aV (AX K sz)) : ∀ (n : Nat) (x1 : Int32) (x2 : Int32) (u : XS), xw6_plain_L4 Post K x0 n x1 x2 u → JJ X (AX K sz) (jj_Q X (va_Qi (fun (r : Int32) (w : XS) => Post r w) (jx_B D dA K) (AX K sz)) 0 0 (AX K sz)) 4 (XP D dA (AX K sz) K u) 0 0 4 [(0, .ref x0), (1, .int x1), (2, .int x2)] [] := by
  intro n
  induction n with
  | zero =>
    intro x1 x2 u h
    exact h.elim
  | succ n ih =>
    intro x1 x2 u h
    have h : xw6_plain_L4_S Post K x0 (xw6_plain_L4 Post K x0 n) x1 x2 u := h
    unfold xw6_plain_L4_S at h
    refine jj_iload_n hX dX6_plain_4 2 rfl 5 rfl ?_
    refine jj_aload_n hX dX6_plain_5 0 rfl 6 rfl ?_
    obtain ⟨k6, h⟩ := h
    refine xg6_3 hX hY k6 dX6_plain_6 q340 9 rfl ?_
    refine jj_icmp_ge hX dX6_plain_9 69 12 (by decide) rfl (fun c9 => ?_) (fun c9 => ?_)
    · have h := h.1 c9
      refine jj_iload_n hX dX6_plain_69 1 rfl 70 rfl ?_
      exact jj_reti (post := (fun (r : Int32) (w : XS) => Post r w)) (u := u) hX dX6_plain_70 (Nat.le_refl 0) (Nat.le_refl 0) jx_hB h
    · have h := h.2 c9
      refine jj_aload_n hX dX6_plain_12 0 rfl 13 rfl ?_
      refine xg6_2 hX hY k6 dX6_plain_13 q338 16 rfl ?_
      refine jj_iload_n hX dX6_plain_16 2 rfl 17 rfl ?_
      obtain ⟨b17, g17, h⟩ := h
      refine jj_st (st2 := [.int x2, .ref b17]) (by rw [va_rf_some g17]) ?_
      obtain ⟨n17, k17, h⟩ := h
      obtain ⟨hi17, h⟩ := h
      refine jx_bald hX hY.1 k17 _ rfl hi17 dX6_plain_17 18 rfl ?_
      refine knxs_isLetter hX XP.keeps hY.2.1 nq896 (Nat.le_of_ble_eq_true rfl) (Nat.le_of_ble_eq_true rfl) (Nat.zero_le _) (Nat.zero_le _) (Nat.le_of_ble_eq_true rfl) dX6_plain_18 21 rfl h (fun r18 hb18 h => ?_)
      refine jj_if_ne hX dX6_plain_21 27 24 (by decide) rfl (fun c21 => ?_) (fun c21 => ?_)
      · have h := h.1 c21
        refine jj_aload_n hX dX6_plain_27 0 rfl 28 rfl ?_
        refine jj_aload_n hX dX6_plain_28 0 rfl 29 rfl ?_
        refine xg6_2 hX hY k6 dX6_plain_29 q338 32 rfl ?_
        refine jj_iload_n hX dX6_plain_32 2 rfl 33 rfl ?_
        obtain ⟨b33, g33, h⟩ := h
        refine jj_st (st2 := [.int x2, .ref b33, .ref x0]) (by rw [va_rf_some g33]) ?_
        obtain ⟨n33, k33, h⟩ := h
        obtain ⟨hi33, h⟩ := h
        refine jx_bald hX hY.1 k33 _ rfl hi33 dX6_plain_33 34 rfl ?_
        refine knxs_small hX XP.keeps hY.2.1 nq942 (Nat.le_of_ble_eq_true rfl) (Nat.le_of_ble_eq_true rfl) (Nat.zero_le _) (Nat.zero_le _) (Nat.le_of_ble_eq_true rfl) dX6_plain_34 37 rfl h (fun r34 h => ?_)
        refine kxw6_justFor hX hY k6 q959 (Nat.le_of_ble_eq_true rfl) (Nat.le_of_ble_eq_true rfl) (Nat.zero_le _) (Nat.zero_le _) (Nat.le_of_ble_eq_true rfl) dX6_plain_37 40 rfl h (fun r37 u37 h => ?_)
        refine jj_istore_n (lv2 := [(0, .ref x0), (1, .int x1), (2, .int x2), (3, .int r37)]) hX dX6_plain_40 (Nat.le_of_ble_eq_true rfl) [1, 2, 3, 0] rfl 41 rfl ?_
        refine jj_iload_n hX dX6_plain_41 3 rfl 42 rfl ?_
        refine jj_if_ge hX dX6_plain_42 47 45 (by decide) rfl (fun c42 => ?_) (fun c42 => ?_)
        · have h := h.1 c42
          refine jj_iload_n hX dX6_plain_47 1 rfl 48 rfl ?_
          refine jj_aload_n hX dX6_plain_48 0 rfl 49 rfl ?_
          refine xg6_0 hX hY k6 dX6_plain_49 q334 52 rfl ?_
          obtain ⟨b52, g52, h⟩ := h
          refine jj_st (st2 := [.ref b52, .int x1]) (by rw [va_rf_some g52]) ?_
          obtain ⟨k52, h⟩ := h
          refine xgn5_0 hX hY k52 dX6_plain_52 nq274 55 rfl ?_
          refine jj_iload_n hX dX6_plain_55 3 rfl 56 rfl ?_
          obtain ⟨b56, g56, h⟩ := h
          refine jj_st (st2 := [.int r37, .ref b56, .int x1]) (by rw [va_rf_some g56]) ?_
          obtain ⟨n56, k56, h⟩ := h
          obtain ⟨hi56, h⟩ := h
          refine jx_aald5 hX hY.1 k56 _ rfl hi56 dX6_plain_56 57 rfl ?_
          obtain ⟨b57, g57, h⟩ := h
          refine jj_st (st2 := [.ref b57, .int x1]) (by rw [va_rf_some g57]) ?_
          obtain ⟨k57, h⟩ := h
          refine xgr_1 hX hY k57 dX6_plain_57 q776 60 rfl ?_
          obtain ⟨b60, g60, h⟩ := h
          refine jj_st (st2 := [.ref b60, .int x1]) (by rw [va_rf_some g60]) ?_
          obtain ⟨n60, k60, h⟩ := h
          refine jx_alen hX hY.1 k60 dX6_plain_60 61 rfl ?_
          refine jj_iadd hX dX6_plain_61 62 rfl ?_
          refine jj_topi (fun v62 e62 => ?_)
          have h := h v62 e62
          refine jj_istore_n (lv2 := [(0, .ref x0), (1, .int v62), (2, .int x2)]) hX dX6_plain_62 (Nat.le_of_ble_eq_true rfl) [1, 0, 2] rfl 63 rfl ?_
          obtain ⟨v63, e63⟩ : ∃ y : Int32, y = x2 + (1 : Int32) := ⟨_, rfl⟩
          have h := h v63 e63
          refine jj_iinc (v := v63) (lv2 := [(0, .ref x0), (1, .int v62), (2, .int v63)]) hX dX6_plain_63 2 rfl (by rw [e63, ci_1]) (Nat.le_of_ble_eq_true rfl) [1, 2, 0] rfl 66 rfl ?_
          refine jj_goto hX dX6_plain_66 4 (by decide) ?_
          exact ih _ _ _ h
        · have h := h.2 c42
          refine jj_iconst hX dX6_plain_45 ci_m1 46 rfl ?_
          exact jj_reti (post := (fun (r : Int32) (w : XS) => Post r w)) (u := u37) hX dX6_plain_46 (Nat.le_refl 0) (Nat.le_refl 0) jx_hB h
      · have h := h.2 c21
        refine jj_goto hX dX6_plain_24 63 (by decide) ?_
        obtain ⟨v63, e63⟩ : ∃ y : Int32, y = x2 + (1 : Int32) := ⟨_, rfl⟩
        have h := h v63 e63
        refine jj_iinc (v := v63) (lv2 := [(0, .ref x0), (1, .int x1), (2, .int v63)]) hX dX6_plain_63 2 rfl (by rw [e63, ci_1]) (Nat.le_of_ble_eq_true rfl) [1, 2, 0] rfl 66 rfl ?_
        refine jj_goto hX dX6_plain_66 4 (by decide) ?_
        exact ih _ _ _ h
set_option maxHeartbeats 4000000 in
set_option maxRecDepth 100000 in
theorem mxw6_plain (l : Launch) (hfl : l.stackTraces = false) (D : va_G) (dA aK aV : Nat → Nat) (x0 : Nat) (K : XK) (u : XS) (Post : Int32 → XS → Prop) (h : xw6_plain x0 K u Post) (sz : Nat) : Met l yX6_plain (ws_ yX6_plain cX6_plain 4 (Option.some Jvm.ClassFile.FieldType.int)) (jx_rm 3 63 0 0) (jx_Pc D dA aK aV K u sz [.ref x0]) (va_Qi (fun (r : Int32) (w : XS) => Post r w) (jx_B D dA K) (AX K sz)) 0 0 (AX K sz) := by
  refine jx_start hfl [.ref x0] [(0, .ref x0)] (by decide) (Nat.le_of_ble_eq_true rfl) rfl (fun X hX hY hin => ?_)
  unfold xw6_plain at h
  refine jj_iconst hX dX6_plain_0 ci_0 1 rfl ?_
  refine jj_istore_n (lv2 := [(0, .ref x0), (1, .int (0 : Int32))]) hX dX6_plain_1 (Nat.le_of_ble_eq_true rfl) [1, 0] rfl 2 rfl ?_
  refine jj_iconst hX dX6_plain_2 ci_0 3 rfl ?_
  refine jj_istore_n (lv2 := [(0, .ref x0), (1, .int (0 : Int32)), (2, .int (0 : Int32))]) hX dX6_plain_3 (Nat.le_of_ble_eq_true rfl) [1, 2, 0] rfl 4 rfl ?_
  obtain ⟨n9, h⟩ := h
  exact txw6_plain_L4 hX hY n9 _ _ _ h
theorem hd_xw6_plain : yX6_plain.cls ≠ "java/lang/invoke/MethodHandle" ∧ yX6_plain.cls ≠ "java/lang/invoke/VarHandle" ∧ (parseMethodDescriptor yX6_plain.desc).map (fun d => d.parameters.length) = some 0 := by decide +kernel
theorem kxw6_plain {X : JC} {A : Nat → Prop} {Q : State → Prop} {nL k n pc : Nat} {lv : List (Nat × Value)} {st : List Value} {own : String} {cc : ByteArray} {ret : Option FieldType} {F LL mc ms ix : Nat} {D : va_G} {dA aK aV : Nat → Nat} {K : XK} {u : XS} {x0 : Nat} {Post : Int32 → XS → Prop} (hX : JX X own cc nL ret F LL mc ms) (hY : JY X D dA aK aV A) (h1a : K x0 = (1, 6)) (hlk : (Cond.methodLink own ix yX6_plain) ∈ lw_all) (hF : 3 + 1 ≤ F) (hL : 8 + (4 + 11) + 63 ≤ LL) (hk : k ≤ mc) (hk2 : n ≤ ms) (hw : (st.map fun v => v.category).sum ≤ 8) (d : decode cc pc = .ok (.invokevirtual ix, 3)) (q : Nat) (hq : pc + 3 = q) (h : xw6_plain x0 K u  Post) (kk : ∀ (r : Int32) (u2 : XS), Post r u2 → JJ X A Q nL (XP D dA A K u2) k n q lv (.int r :: st)) : JJ X A Q nL (XP D dA A K u) k n pc lv (.ref x0 :: st) :=
  jx_callVi (na := 0) (As := []) hX hY jf6 h1a (fun sz => mxw6_plain (jj_l X) hY.2.2.2.2 D dA aK aV x0 K u  Post h sz) hlk q1192 q1193 q128 q1194 ⟨rfl, hd_xw6_plain⟩ rfl rfl hw hF hL hk hk2 d q hq kk
theorem knxw6_plain {X : JC} {A : Nat → Prop} {Q : State → Prop} {nL k n pc : Nat} {lv : List (Nat × Value)} {st : List Value} {own : String} {cc : ByteArray} {ret : Option FieldType} {F LL mc ms ix : Nat} {D : va_G} {dA aK aV : Nat → Nat} {K : XK} {u : XS} {x0 : Nat} {host : String} {Post : Int32 → XS → Prop} (hX : JX X own cc nL ret F LL mc ms) (hY : JY X D dA aK aV A) (h1a : K x0 = (1, 6)) (hlk : (Cond.methodLinkNest own ix yX6_plain host) ∈ jx_nest) (hF : 3 + 1 ≤ F) (hL : 8 + (4 + 11) + 63 ≤ LL) (hk : k ≤ mc) (hk2 : n ≤ ms) (hw : (st.map fun v => v.category).sum ≤ 8) (d : decode cc pc = .ok (.invokevirtual ix, 3)) (q : Nat) (hq : pc + 3 = q) (h : xw6_plain x0 K u  Post) (kk : ∀ (r : Int32) (u2 : XS), Post r u2 → JJ X A Q nL (XP D dA A K u2) k n q lv (.int r :: st)) : JJ X A Q nL (XP D dA A K u) k n pc lv (.ref x0 :: st) :=
  jx_callNi (na := 0) (As := []) hX hY jf6 h1a (fun sz => mxw6_plain (jj_l X) hY.2.2.2.2 D dA aK aV x0 K u  Post h sz) hlk q1192 q1193 q128 q1194 hd_xw6_plain rfl rfl hw hF hL hk hk2 d q hq kk
