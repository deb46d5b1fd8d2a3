set_option linter.unusedVariables false
def xw0_plain_B85 (Post : Int32 → XK → XS → Prop) (mc ms : Nat) (x0 : Nat) (x1 : Int32) (s0 : Int32) (s1 : Nat) (K : XK) (u : XS) (c s : Nat) : Prop :=
  K s1 = (1, 0) ∧
  ∀ u85 : XS, u85 = xsi u s1 7 s0 →
  (0 ≤ x1 →
    K x0 = (1, 0) ∧
    ∃ b101, (xr u85 x0 10) = some b101 ∧
    K b101 = (1, 4) ∧
    ∃ b104, (xr u85 b101 2) = some b104 ∧
    K b104 = (1, 15) ∧
    ∃ b107, (xr u85 b104 1) = some b107 ∧
    ∃ n107, K b107 = (2, n107) ∧
    ∃ b113, (xr u85 x0 10) = some b113 ∧
    K b113 = (1, 4) ∧
    ∃ b116, (xr u85 b113 2) = some b116 ∧
    K b116 = (1, 15) ∧
    Post ((x1 + (nI n107)) - (xi u85 b116 12)) K u85) ∧
  (¬ 0 ≤ x1 →
    Post (-1 : Int32) K u85)
/-- RaisedPress.plain()I -/
def xw0_plain (x0 : Nat) (K : XK) (u : XS) (mc ms : Nat) (Post : Int32 → XK → XS → Prop) : Prop :=
  K x0 = (1, 0) ∧
  xw0_whyNotSet x0 K u (fun r2 u2 =>
    ∀ u5 : XS, u5 = xsi u2 x0 7 r2 →
    ((xi u5 x0 7) ≤ 0 →
      ∃ m18 w18, m18 ≤ mc ∧ w18 ≤ ms ∧ xw0_setter x0 K u5 m18 w18 (fun r18 K18 u18 =>
        ∃ b25, (xr u18 x0 10) = some b25 ∧
        K18 b25 = (1, 4) ∧
        ∃ b28, (xr u18 b25 2) = some b28 ∧
        K18 b28 = (1, 15) ∧
        K18 r18 = (1, 6) ∧
        ∀ u31 : XS, u31 = xsr u18 r18 2 (xr u18 b28 0) →
        ∃ m35 w35, (m18 + m35) ≤ mc ∧ (w18 + w35) ≤ ms ∧ xw0_setter x0 K18 u31 m35 w35 (fun r35 K35 u35 =>
          ∃ b42, (xr u35 x0 10) = some b42 ∧
          K35 b42 = (1, 4) ∧
          ∃ b45, (xr u35 b42 2) = some b45 ∧
          K35 b45 = (1, 15) ∧
          ∃ b48, (xr u35 b45 0) = some b48 ∧
          ∃ n48, K35 b48 = (3, n48) ∧
          K35 r35 = (1, 6) ∧
          ∀ u49 : XS, u49 = xsi u35 r35 3 (nI n48) →
          ∃ m53 w53, ((m18 + m35) + m53) ≤ mc ∧ ((w18 + w35) + w53) ≤ ms ∧ xw0_setter x0 K35 u49 m53 w53 (fun r53 K53 u53 =>
            ∃ b60, (xr u53 x0 10) = some b60 ∧
            K53 b60 = (1, 4) ∧
            K53 r53 = (1, 6) ∧
            ∀ u63 : XS, u63 = xsi u53 r53 1 (xi u53 b60 1) →
            ∃ m67 w67, (((m18 + m35) + m53) + m67) ≤ mc ∧ (((w18 + w35) + w53) + w67) ≤ ms ∧ xw0_setter x0 K53 u63 m67 w67 (fun r67 K67 u67 =>
              K67 r67 = (1, 6) ∧
              xw6_plain r67 K67 u67 (fun r70 u70 =>
                (0 ≤ r70 →
                  xw0_plain_B85 Post mc ms x0 r70 (0 : Int32) x0 K67 u70 (((m18 + m35) + m53) + m67) (((w18 + w35) + w53) + w67)) ∧
                (¬ 0 ≤ r70 →
                  xw0_plain_B85 Post mc ms x0 r70 (7 : Int32) x0 K67 u70 (((m18 + m35) + m53) + m67) (((w18 + w35) + w53) + w67)))))))) ∧
    (¬ (xi u5 x0 7) ≤ 0 →
      Post (-1 : Int32) K u5))
set_option maxHeartbeats 4000000 in
set_option maxRecDepth 100000 in
theorem txw0_plain_B85 {X : JC} {D : va_G} {dA aK aV : Nat → Nat} {sz : Nat} {K0 : XK} {mc ms : Nat} {Post : Int32 → XK → XS → Prop} {x0 : Nat} {x1 : Int32} {s0 : Int32} {s1 : Nat} {K : XK} {u : XS} {c s : Nat} (hX : JX X yX0_plain.cls cX0_plain 2 (Option.some Jvm.ClassFile.FieldType.int) 4 86 mc ms) (hY : JY X D dA aK aV (AX K0 sz)) (hl : XLe K0 K) (hc : c ≤ mc) (hs : s ≤ ms) (h : xw0_plain_B85 Post mc ms x0 x1 s0 s1 K u c s) : JJ X (AX K0 sz) (jj_Q X (va_Qi (fun (r : Int32) (w : XK × XS) => Post r w.1 w.2) (jx_BA D dA K0 sz) (AX K0 sz)) mc ms (AX K0 sz)) 2 (XP D dA (AX K0 sz) K u) c s 85 [(0, .ref x0), (1, .int x1)] [.int s0, .ref s1] := by
  unfold xw0_plain_B85 at h
  obtain ⟨k85, h⟩ := h
  refine xp0_7 hX hY k85 dX0_plain_85 q418 88 rfl (fun u85 e85 => ?_)
  have h := h u85 e85
  refine jj_iload_n hX dX0_plain_88 1 rfl 89 rfl ?_
  refine jj_if_ge hX dX0_plain_89 96 92 (by decide) rfl (fun c89 => ?_) (fun c89 => ?_)
  · have h := h.1 c89
    refine jj_iload_n hX dX0_plain_96 1 rfl 97 rfl ?_
    refine jj_aload_n hX dX0_plain_97 0 rfl 98 rfl ?_
    obtain ⟨k98, h⟩ := h
    refine xg0_10 hX hY k98 dX0_plain_98 q421 101 rfl ?_
    obtain ⟨b101, g101, h⟩ := h
    refine jj_st (st2 := [.ref b101, .int x1]) (by rw [va_rf_some g101]) ?_
    obtain ⟨k101, h⟩ := h
    refine xgn4_2 hX hY k101 dX0_plain_101 nq319 104 rfl ?_
    obtain ⟨b104, g104, h⟩ := h
    refine jj_st (st2 := [.ref b104, .int x1]) (by rw [va_rf_some g104]) ?_
    obtain ⟨k104, h⟩ := h
    refine xgn15_1 hX hY k104 dX0_plain_104 nq1003 107 rfl ?_
    obtain ⟨b107, g107, h⟩ := h
    refine jj_st (st2 := [.ref b107, .int x1]) (by rw [va_rf_some g107]) ?_
    obtain ⟨n107, k107, h⟩ := h
    refine jx_alen hX hY.1 k107 dX0_plain_107 108 rfl ?_
    refine jj_iadd hX dX0_plain_108 109 rfl ?_
    refine jj_aload_n hX dX0_plain_109 0 rfl 110 rfl ?_
    refine xg0_10 hX hY k98 dX0_plain_110 q421 113 rfl ?_
    obtain ⟨b113, g113, h⟩ := h
    refine jj_st (st2 := [.ref b113, .int (x1 + (nI n107))]) (by rw [va_rf_some g113]) ?_
    obtain ⟨k113, h⟩ := h
    refine xgn4_2 hX hY k113 dX0_plain_113 nq319 116 rfl ?_
    obtain ⟨b116, g116, h⟩ := h
    refine jj_st (st2 := [.ref b116, .int (x1 + (nI n107))]) (by rw [va_rf_some g116]) ?_
    obtain ⟨k116, h⟩ := h
    refine xgn15_12 hX hY k116 dX0_plain_116 nq1033 119 rfl ?_
    refine jj_isub hX dX0_plain_119 120 rfl ?_
    exact jj_reti (post := (fun (r : Int32) (w : XK × XS) => Post r w.1 w.2)) (u := (K, u85)) hX dX0_plain_120 hc hs (jx_hBA hl) h
  · have h := h.2 c89
    refine jj_iconst hX dX0_plain_92 ci_m1 93 rfl ?_
    refine jj_goto hX dX0_plain_93 120 (by decide) ?_
    exact jj_reti (post := (fun (r : Int32) (w : XK × XS) => Post r w.1 w.2)) (u := (K, u85)) hX dX0_plain_120 hc hs (jx_hBA hl) h
set_option maxHeartbeats 4000000 in
set_option maxRecDepth 100000 in
theorem mxw0_plain (l : Launch) (hfl : l.stackTraces = false) (D : va_G) (dA aK aV : Nat → Nat) (x0 : Nat) (K : XK) (u : XS) (mc ms : Nat) (Post : Int32 → XK → XS → Prop) (h : xw0_plain x0 K u mc ms Post) (sz : Nat) : Met l yX0_plain (ws_ yX0_plain cX0_plain 2 (Option.some Jvm.ClassFile.FieldType.int)) (jx_rm 4 86 mc ms) (jx_Pc D dA aK aV K u sz [.ref x0]) (va_Qi (fun (r : Int32) (w : XK × XS) => Post r w.1 w.2) (jx_BA D dA K sz) (AX K sz)) mc ms (AX K sz) := by
  refine jx_start hfl [.ref x0] [(0, .ref x0)] (by decide) (Nat.le_of_ble_eq_true rfl) rfl (fun X hX hY hin => ?_)
  unfold xw0_plain at h
  refine jj_aload_n hX dX0_plain_0 0 rfl 1 rfl ?_
  refine jj_aload_n hX dX0_plain_1 0 rfl 2 rfl ?_
  obtain ⟨k2, h⟩ := h
  refine kxw0_whyNotSet hX hY k2 q1111 (Nat.le_of_ble_eq_true rfl) (Nat.le_of_ble_eq_true rfl) (Nat.zero_le _) (Nat.zero_le _) (Nat.le_of_ble_eq_true rfl) dX0_plain_2 5 rfl h (fun r2 u2 h => ?_)
  refine xp0_7 hX hY k2 dX0_plain_5 q418 8 rfl (fun u5 e5 => ?_)
  have h := h u5 e5
  refine jj_aload_n hX dX0_plain_8 0 rfl 9 rfl ?_
  refine xg0_7 hX hY k2 dX0_plain_9 q418 12 rfl ?_
  refine jj_if_le hX dX0_plain_12 17 15 (by decide) rfl (fun c12 => ?_) (fun c12 => ?_)
  · have h := h.1 c12
    refine jj_aload_n hX dX0_plain_17 0 rfl 18 rfl ?_
    obtain ⟨m18, w18, hc18, hs18, h⟩ := h
    refine kxw0_setter hX hY k2 q875 (Nat.le_of_ble_eq_true rfl) (Nat.le_of_ble_eq_true rfl) (by simpa using hc18) (by simpa using hs18) (Nat.le_of_ble_eq_true rfl) dX0_plain_18 21 rfl h (fun r18 K18 u18 hle18 h => ?_)
    have k18 := hle18.at k2 (by simp)
    have hl18 := XLe.rf.tr hle18
    refine jj_cs (k2 := m18) (n2 := w18) (by simp) (by simp) ?_
    refine jj_aload_n hX dX0_plain_21 0 rfl 22 rfl ?_
    refine xg0_10 hX hY k18 dX0_plain_22 q421 25 rfl ?_
    obtain ⟨b25, g25, h⟩ := h
    refine jj_st (st2 := [.ref b25, .ref r18]) (by rw [va_rf_some g25]) ?_
    obtain ⟨k25, h⟩ := h
    refine xgn4_2 hX hY k25 dX0_plain_25 nq319 28 rfl ?_
    obtain ⟨b28, g28, h⟩ := h
    refine jj_st (st2 := [.ref b28, .ref r18]) (by rw [va_rf_some g28]) ?_
    obtain ⟨k28, h⟩ := h
    refine xgn15_0 hX hY k28 dX0_plain_28 nq1000 31 rfl ?_
    obtain ⟨k31, h⟩ := h
    refine xpn6_2 (v := (xr u18 b28 0)) hX hY k31 dX0_plain_31 nq339 34 rfl (fun u31 e31 => ?_)
    have h := h u31 e31
    refine jj_aload_n hX dX0_plain_34 0 rfl 35 rfl ?_
    obtain ⟨m35, w35, hc35, hs35, h⟩ := h
    refine kxw0_setter hX hY k18 q875 (Nat.le_of_ble_eq_true rfl) (Nat.le_of_ble_eq_true rfl) hc35 hs35 (Nat.le_of_ble_eq_true rfl) dX0_plain_35 38 rfl h (fun r35 K35 u35 hle35 h => ?_)
    have k35 := hle35.at k18 (by simp)
    have k35_1 := hle35.at k25 (by simp)
    have k35_2 := hle35.at k28 (by simp)
    have k35_3 := hle35.at k31 (by simp)
    have hl35 := hl18.tr hle35
    refine jj_cs (k2 := (m18 + m35)) (n2 := (w18 + w35)) (by simp) (by simp) ?_
    refine jj_aload_n hX dX0_plain_38 0 rfl 39 rfl ?_
    refine xg0_10 hX hY k35 dX0_plain_39 q421 42 rfl ?_
    obtain ⟨b42, g42, h⟩ := h
    refine jj_st (st2 := [.ref b42, .ref r35]) (by rw [va_rf_some g42]) ?_
    obtain ⟨k42, h⟩ := h
    refine xgn4_2 hX hY k42 dX0_plain_42 nq319 45 rfl ?_
    obtain ⟨b45, g45, h⟩ := h
    refine jj_st (st2 := [.ref b45, .ref r35]) (by rw [va_rf_some g45]) ?_
    obtain ⟨k45, h⟩ := h
    refine xgn15_0 hX hY k45 dX0_plain_45 nq1000 48 rfl ?_
    obtain ⟨b48, g48, h⟩ := h
    refine jj_st (st2 := [.ref b48, .ref r35]) (by rw [va_rf_some g48]) ?_
    obtain ⟨n48, k48, h⟩ := h
    refine jx_alen hX hY.1 k48 dX0_plain_48 49 rfl ?_
    obtain ⟨k49, h⟩ := h
    refine xpn6_3 hX hY k49 dX0_plain_49 nq341 52 rfl (fun u49 e49 => ?_)
    have h := h u49 e49
    refine jj_aload_n hX dX0_plain_52 0 rfl 53 rfl ?_
    obtain ⟨m53, w53, hc53, hs53, h⟩ := h
    refine kxw0_setter hX hY k35 q875 (Nat.le_of_ble_eq_true rfl) (Nat.le_of_ble_eq_true rfl) hc53 hs53 (Nat.le_of_ble_eq_true rfl) dX0_plain_53 56 rfl h (fun r53 K53 u53 hle53 h => ?_)
    have k53 := hle53.at k35 (by simp)
    have k53_1 := hle53.at k35_1 (by simp)
    have k53_2 := hle53.at k35_2 (by simp)
    have k53_3 := hle53.at k35_3 (by simp)
    have k53_4 := hle53.at k42 (by simp)
    have k53_5 := hle53.at k45 (by simp)
    have k53_6 := hle53.at k48 (by simp)
    have k53_7 := hle53.at k49 (by simp)
    have hl53 := hl35.tr hle53
    refine jj_cs (k2 := ((m18 + m35) + m53)) (n2 := ((w18 + w35) + w53)) (by simp) (by simp) ?_
    refine jj_aload_n hX dX0_plain_56 0 rfl 57 rfl ?_
    refine xg0_10 hX hY k53 dX0_plain_57 q421 60 rfl ?_
    obtain ⟨b60, g60, h⟩ := h
    refine jj_st (st2 := [.ref b60, .ref r53]) (by rw [va_rf_some g60]) ?_
    obtain ⟨k60, h⟩ := h
    refine xgn4_1 hX hY k60 dX0_plain_60 nq317 63 rfl ?_
    obtain ⟨k63, h⟩ := h
    refine xpn6_1 hX hY k63 dX0_plain_63 nq337 66 rfl (fun u63 e63 => ?_)
    have h := h u63 e63
    refine jj_aload_n hX dX0_plain_66 0 rfl 67 rfl ?_
    obtain ⟨m67, w67, hc67, hs67, h⟩ := h
    refine kxw0_setter hX hY k53 q875 (Nat.le_of_ble_eq_true rfl) (Nat.le_of_ble_eq_true rfl) hc67 hs67 (Nat.le_of_ble_eq_true rfl) dX0_plain_67 70 rfl h (fun r67 K67 u67 hle67 h => ?_)
    have k67 := hle67.at k53 (by simp)
    have k67_1 := hle67.at k53_1 (by simp)
    have k67_2 := hle67.at k53_2 (by simp)
    have k67_3 := hle67.at k53_3 (by simp)
    have k67_4 := hle67.at k53_4 (by simp)
    have k67_5 := hle67.at k53_5 (by simp)
    have k67_6 := hle67.at k53_6 (by simp)
    have k67_7 := hle67.at k53_7 (by simp)
    have k67_8 := hle67.at k60 (by simp)
    have k67_9 := hle67.at k63 (by simp)
    have hl67 := hl53.tr hle67
    refine jj_cs (k2 := (((m18 + m35) + m53) + m67)) (n2 := (((w18 + w35) + w53) + w67)) (by simp) (by simp) ?_
    obtain ⟨k70, h⟩ := h
    refine kxw6_plain hX hY k70 q1191 (Nat.le_of_ble_eq_true rfl) (Nat.le_of_ble_eq_true rfl) hc67 hs67 (Nat.le_of_ble_eq_true rfl) dX0_plain_70 73 rfl h (fun r70 u70 h => ?_)
    refine jj_istore_n (lv2 := [(0, .ref x0), (1, .int r70)]) hX dX0_plain_73 (Nat.le_of_ble_eq_true rfl) [1, 0] rfl 74 rfl ?_
    refine jj_aload_n hX dX0_plain_74 0 rfl 75 rfl ?_
    refine jj_iload_n hX dX0_plain_75 1 rfl 76 rfl ?_
    refine jj_if_ge hX dX0_plain_76 84 79 (by decide) rfl (fun c76 => ?_) (fun c76 => ?_)
    · have h := h.1 c76
      refine jj_iconst hX dX0_plain_84 ci_0 85 rfl ?_
      exact txw0_plain_B85 hX hY hl67 hc67 hs67 h
    · have h := h.2 c76
      refine jj_bipush hX dX0_plain_79 cb_7 81 rfl ?_
      refine jj_goto hX dX0_plain_81 85 (by decide) ?_
      exact txw0_plain_B85 hX hY hl67 hc67 hs67 h
  · have h := h.2 c12
    refine jj_iconst hX dX0_plain_15 ci_m1 16 rfl ?_
    exact jj_reti (post := (fun (r : Int32) (w : XK × XS) => Post r w.1 w.2)) (u := (K, u5)) hX dX0_plain_16 (Nat.zero_le _) (Nat.zero_le _) (jx_hBA XLe.rf) h
theorem hd_xw0_plain : yX0_plain.cls ≠ "java/lang/invoke/MethodHandle" ∧ yX0_plain.cls ≠ "java/lang/invoke/VarHandle" ∧ (parseMethodDescriptor yX0_plain.desc).map (fun d => d.parameters.length) = some 0 := by decide +kernel
theorem kxw0_plain {X : JC} {A : Nat → Prop} {Q : State → Prop} {nL k n pc : Nat} {lv : List (Nat × Value)} {st : List Value} {own : String} {cc : ByteArray} {ret : Option FieldType} {F LL mc ms ix mc2 ms2 : Nat} {D : va_G} {dA aK aV : Nat → Nat} {K : XK} {u : XS} {x0 : Nat} {Post : Int32 → XK → XS → Prop} (hX : JX X own cc nL ret F LL mc ms) (hY : JY X D dA aK aV A) (h1a : K x0 = (1, 0)) (hlk : (Cond.methodLink own ix yX0_plain) ∈ lw_all) (hF : 4 + 1 ≤ F) (hL : 8 + (2 + 11) + 86 ≤ LL) (hk : k + mc2 ≤ mc) (hk2 : n + ms2 ≤ ms) (hw : (st.map fun v => v.category).sum ≤ 8) (d : decode cc pc = .ok (.invokevirtual ix, 3)) (q : Nat) (hq : pc + 3 = q) (h : xw0_plain x0 K u mc2 ms2 Post) (kk : ∀ (r : Int32) (K2 : XK) (u2 : XS), XLe K K2 → Post r K2 u2 → JJ X A Q nL (XP D dA A K2 u2) (k + mc2) (n + ms2) q lv (.int r :: st)) : JJ X A Q nL (XP D dA A K u) k n pc lv (.ref x0 :: st) :=
  jx_callViA (na := 0) (As := []) hX hY jf0 h1a (fun sz => mxw0_plain (jj_l X) hY.2.2.2.2 D dA aK aV x0 K u mc2 ms2 Post h sz) hlk q1188 q1189 q120 q1190 ⟨rfl, hd_xw0_plain⟩ rfl rfl hw hF hL hk hk2 d q hq kk
theorem knxw0_plain {X : JC} {A : Nat → Prop} {Q : State → Prop} {nL k n pc : Nat} {lv : List (Nat × Value)} {st : List Value} {own : String} {cc : ByteArray} {ret : Option FieldType} {F LL mc ms ix mc2 ms2 : Nat} {D : va_G} {dA aK aV : Nat → Nat} {K : XK} {u : XS} {x0 : Nat} {host : String} {Post : Int32 → XK → XS → Prop} (hX : JX X own cc nL ret F LL mc ms) (hY : JY X D dA aK aV A) (h1a : K x0 = (1, 0)) (hlk : (Cond.methodLinkNest own ix yX0_plain host) ∈ jx_nest) (hF : 4 + 1 ≤ F) (hL : 8 + (2 + 11) + 86 ≤ LL) (hk : k + mc2 ≤ mc) (hk2 : n + ms2 ≤ ms) (hw : (st.map fun v => v.category).sum ≤ 8) (d : decode cc pc = .ok (.invokevirtual ix, 3)) (q : Nat) (hq : pc + 3 = q) (h : xw0_plain x0 K u mc2 ms2 Post) (kk : ∀ (r : Int32) (K2 : XK) (u2 : XS), XLe K K2 → Post r K2 u2 → JJ X A Q nL (XP D dA A K2 u2) (k + mc2) (n + ms2) q lv (.int r :: st)) : JJ X A Q nL (XP D dA A K u) k n pc lv (.ref x0 :: st) :=
  jx_callNiA (na := 0) (As := []) hX hY jf0 h1a (fun sz => mxw0_plain (jj_l X) hY.2.2.2.2 D dA aK aV x0 K u mc2 ms2 Post h sz) hlk q1188 q1189 q120 q1190 hd_xw0_plain rfl rfl hw hF hL hk hk2 d q hq kk
def xw6_fewest_2_L23_S (G2 : Int32 → XS → Prop) (Post : Int32 → XS → Prop) (K : XK) (x0 : Nat) (x1 : Int32) (x2 : Int32) (x3 : Int32) (R : Int32 → Int32 → XS → Prop) (x4 : Int32) (x5 : Int32) (u : XS) : Prop :=
  K x0 = (1, 6) ∧
  ∃ b29, (xr u x0 0) = some b29 ∧
  K b29 = (1, 5) ∧
  ((xi u b29 1) ≤ x5 →
    ∃ b140, (xr u x0 20) = some b140 ∧
    ∃ n140, K b140 = (2, n140) ∧
    vp_in x3 n140 ∧
    ∀ u140 : XS, u140 = xsi u b140 x3.toNatClampNeg x4 →
    ∀ v141 : Int32, v141 = x3 + (-1 : Int32) →
    G2 v141 u140) ∧
  (¬ (xi u b29 1) ≤ x5 →
    (x2 ≤ x3 →
      ∃ b140, (xr u x0 20) = some b140 ∧
      ∃ n140, K b140 = (2, n140) ∧
      vp_in x3 n140 ∧
      ∀ u140 : XS, u140 = xsi u b140 x3.toNatClampNeg x4 →
      ∀ v141 : Int32, v141 = x3 + (-1 : Int32) →
      G2 v141 u140) ∧
    (¬ x2 ≤ x3 →
      xw6_stands x0 x5 x3 x1 x2 K u (fun r46 u46 =>
        (¬ r46 = 0 →
          ∃ b64, (xr u46 x0 0) = some b64 ∧
          K b64 = (1, 5) ∧
          ∃ b69, (xr u46 b64 0) = some b69 ∧
          ∃ n69, K b69 = (7, n69) ∧
          vp_in x5 n69 ∧
          ∃ b70, (xr u46 b69 x5.toNatClampNeg) = some b70 ∧
          xRule K b70 ∧
          ∃ b73, (xr u46 b70 0) = some b73 ∧
          ∃ n73, K b73 = (3, n73) ∧
          ∃ b75, (xr u46 x0 20) = some b75 ∧
          ∃ n75, K b75 = (2, n75) ∧
          vp_in (x3 + (nI n73)) n75 ∧
          ∀ v76 : Int32, v76 = (xi u46 b75 (x3 + (nI n73)).toNatClampNeg) →
          ((2147483647 : Int32) ≤ v76 →
            ∀ v127 : Int32, v127 = x5 + (1 : Int32) →
            R x4 v127 u46) ∧
          (¬ (2147483647 : Int32) ≤ v76 →
            ∃ b93, (xr u46 x0 0) = some b93 ∧
            K b93 = (1, 5) ∧
            ∃ b98, (xr u46 b93 0) = some b98 ∧
            ∃ n98, K b98 = (7, n98) ∧
            vp_in x5 n98 ∧
            ∃ b99, (xr u46 b98 x5.toNatClampNeg) = some b99 ∧
            xRule K b99 ∧
            ∃ b102, (xr u46 b99 1) = some b102 ∧
            ∃ n102, K b102 = (2, n102) ∧
            ∃ b109, (xr u46 x0 2) = some b109 ∧
            ∃ n109, K b109 = (3, n109) ∧
            vp_in x3 n109 ∧
            xs_isGreat (xi u46 b109 x3.toNatClampNeg) (fun r110 =>
              (r110 = 0 →
                jw_min x4 ((v76 + (nI n102)) + (0 : Int32)) (fun r122 =>
                  ∀ v127 : Int32, v127 = x5 + (1 : Int32) →
                  R r122 v127 u46)) ∧
              (¬ r110 = 0 →
                jw_min x4 ((v76 + (nI n102)) + (1 : Int32)) (fun r122 =>
                  ∀ v127 : Int32, v127 = x5 + (1 : Int32) →
                  R r122 v127 u46))))) ∧
        (r46 = 0 →
          ∀ v127 : Int32, v127 = x5 + (1 : Int32) →
          R x4 v127 u46))))
def xw6_fewest_2_L23 (G2 : Int32 → XS → Prop) (Post : Int32 → XS → Prop) (K : XK) (x0 : Nat) (x1 : Int32) (x2 : Int32) (x3 : Int32) : Nat → Int32 → Int32 → XS → Prop
  | 0 => fun _ _ _ => False
  | n + 1 => fun x4 x5 u => xw6_fewest_2_L23_S G2 Post K x0 x1 x2 x3 (xw6_fewest_2_L23 G2 Post K x0 x1 x2 x3 n) x4 x5 u
def xw6_fewest_2_L2_S (Post : Int32 → XS → Prop) (K : XK) (x0 : Nat) (x1 : Int32) (x2 : Int32) (R : Int32 → XS → Prop) (x3 : Int32) (u : XS) : Prop :=
  (x3 < x1 →
    K x0 = (1, 6) ∧
    ∃ b152, (xr u x0 20) = some b152 ∧
    ∃ n152, K b152 = (2, n152) ∧
    vp_in x1 n152 ∧
    Post (xi u b152 x1.toNatClampNeg) u) ∧
  (¬ x3 < x1 →
    (¬ x3 = x2 →
      ∃ n, xw6_fewest_2_L23 R Post K x0 x1 x2 x3 n (2147483647 : Int32) (0 : Int32) u) ∧
    (x3 = x2 →
      ∃ n, xw6_fewest_2_L23 R Post K x0 x1 x2 x3 n (0 : Int32) (0 : Int32) u))
def xw6_fewest_2_L2 (Post : Int32 → XS → Prop) (K : XK) (x0 : Nat) (x1 : Int32) (x2 : Int32) : Nat → Int32 → XS → Prop
  | 0 => fun _ _ => False
  | n + 1 => fun x3 u => xw6_fewest_2_L2_S Post K x0 x1 x2 (xw6_fewest_2_L2 Post K x0 x1 x2 n) x3 u
/-- RaisedPress$Setter.fewest(II)I -/
def xw6_fewest_2 (x0 : Nat) (x1 : Int32) (x2 : Int32) (K : XK) (u : XS) (Post : Int32 → XS → Prop) : Prop :=
  ∃ n, xw6_fewest_2_L2 Post K x0 x1 x2 n x2 u
set_option maxHeartbeats 4000000 in
set_option maxRecDepth 100000 in
theorem txw6_fewest_2_L23 {X : JC} {D : va_G} {dA aK aV : Nat → Nat} {sz : Nat} {K : XK} {G2 : Int32 → XS → Prop} {Post : Int32 → XS → Prop} {x0 : Nat} {x1 : Int32} {x2 : Int32} {x3 : Int32} (hX : JX X yX6_fewest_2.cls cX6_fewest_2 7 (Option.some Jvm.ClassFile.FieldType.int) 3 67 0 0) (hY : JY X D dA aK aV (AX K sz)) (hG2 : ∀ (y3 : Int32) (u : XS), G2 y3 u → JJ X (AX K sz) (jj_Q X (va_Qi (fun (r : Int32) (w : XS) => Post r w) (jx_B D dA K) (AX K sz)) 0 0 (AX K sz)) 7 (XP D dA (AX K sz) K u) 0 0 2 [(0, .ref x0), (1, .int x1), (2, .int x2), (3, .int y3)] []) : ∀ (n : Nat) (x4 : Int32) (x5 : Int32) (u : XS), xw6_fewest_2_L23 G2 Post K x0 x1 x2 x3 n x4 x5 u → JJ X (AX K sz) (jj_Q X (va_Qi (fun (r : Int32) (w : XS) => Post r w) (jx_B D dA K) (AX K sz)) 0 0 (AX K sz)) 7 (XP D dA (AX K sz) K u) 0 0 23 [(0, .ref x0), (1, .int x1), (2, .int x2), (3, .int x3), (4, .int x4), (5, .int x5)] [] := by
  intro n
  induction n with
  | zero =>
    intro x4 x5 u h
    exact h.elim
  | succ n ih =>
    intro x4 x5 u h
    have h : xw6_fewest_2_L23_S G2 Post K x0 x1 x2 x3 (xw6_fewest_2_L23 G2 Post K x0 x1 x2 x3 n) x4 x5 u := h
    unfold xw6_fewest_2_L23_S at h
    refine jj_iload hX dX6_fewest_2_23 5 rfl 25 rfl ?_
    refine jj_aload_n hX dX6_fewest_2_25 0 rfl 26 rfl ?_
    obtain ⟨k26, h⟩ := h
    refine xg6_0 hX hY k26 dX6_fewest_2_26 q334 29 rfl ?_
    obtain ⟨b29, g29, h⟩ := h
    refine jj_st (st2 := [.ref b29, .int x5]) (by rw [va_rf_some g29]) ?_
    obtain ⟨k29, h⟩ := h
    refine xgn5_1 hX hY k29 dX6_fewest_2_29 nq277 32 rfl ?_
    refine jj_icmp_ge hX dX6_fewest_2_32 133 35 (by decide) rfl (fun c32 => ?_) (fun c32 => ?_)
    · have h := h.1 c32
      refine jj_aload_n hX dX6_fewest_2_133 0 rfl 134 rfl ?_
      refine xg6_20 hX hY k26 dX6_fewest_2_134 q360 137 rfl ?_
      refine jj_iload_n hX dX6_fewest_2_137 3 rfl 138 rfl ?_
      refine jj_iload hX dX6_fewest_2_138 4 rfl 140 rfl ?_
      obtain ⟨b140, g140, h⟩ := h
      refine jj_st (st2 := [.int x4, .int x3, .ref b140]) (by rw [va_rf_some g140]) ?_
      obtain ⟨n140, k140, h⟩ := h
      obtain ⟨hi140, h⟩ := h
      refine jx_iast hX hY.1 k140 _ rfl hi140 dX6_fewest_2_140 141 rfl (fun u140 e140 => ?_)
      have h := h u140 e140
      obtain ⟨v141, e141⟩ : ∃ y : Int32, y = x3 + (-1 : Int32) := ⟨_, rfl⟩
      have h := h v141 e141
      refine jj_iinc (v := v141) (lv2 := [(0, .ref x0), (1, .int x1), (2, .int x2), (3, .int v141), (4, .int x4), (5, .int x5)]) hX dX6_fewest_2_141 3 rfl (by rw [e141, ci_m1]) (Nat.le_of_ble_eq_true rfl) [1, 2, 3, 0, 4, 5] rfl 144 rfl ?_
      refine jj_goto hX dX6_fewest_2_144 2 (by decide) ?_
      refine jj_sub (lv2 := [(0, .ref x0), (1, .int x1), (2, .int x2), (3, .int v141)]) [0, 1, 2, 3] rfl ?_
      exact hG2 _ _ h
    · have h := h.2 c32
      refine jj_iload_n hX dX6_fewest_2_35 3 rfl 36 rfl ?_
      refine jj_iload_n hX dX6_fewest_2_36 2 rfl 37 rfl ?_
      refine jj_icmp_ge hX dX6_fewest_2_37 133 40 (by decide) rfl (fun c37 => ?_) (fun c37 => ?_)
      · have h := h.1 c37
        refine jj_aload_n hX dX6_fewest_2_133 0 rfl 134 rfl ?_
        refine xg6_20 hX hY k26 dX6_fewest_2_134 q360 137 rfl ?_
        refine jj_iload_n hX dX6_fewest_2_137 3 rfl 138 rfl ?_
        refine jj_iload hX dX6_fewest_2_138 4 rfl 140 rfl ?_
        obtain ⟨b140, g140, h⟩ := h
        refine jj_st (st2 := [.int x4, .int x3, .ref b140]) (by rw [va_rf_some g140]) ?_
        obtain ⟨n140, k140, h⟩ := h
        obtain ⟨hi140, h⟩ := h
        refine jx_iast hX hY.1 k140 _ rfl hi140 dX6_fewest_2_140 141 rfl (fun u140 e140 => ?_)
        have h := h u140 e140
        obtain ⟨v141, e141⟩ : ∃ y : Int32, y = x3 + (-1 : Int32) := ⟨_, rfl⟩
        have h := h v141 e141
        refine jj_iinc (v := v141) (lv2 := [(0, .ref x0), (1, .int x1), (2, .int x2), (3, .int v141), (4, .int x4), (5, .int x5)]) hX dX6_fewest_2_141 3 rfl (by rw [e141, ci_m1]) (Nat.le_of_ble_eq_true rfl) [1, 2, 3, 0, 4, 5] rfl 144 rfl ?_
        refine jj_goto hX dX6_fewest_2_144 2 (by decide) ?_
        refine jj_sub (lv2 := [(0, .ref x0), (1, .int x1), (2, .int x2), (3, .int v141)]) [0, 1, 2, 3] rfl ?_
        exact hG2 _ _ h
      · have h := h.2 c37
        refine jj_aload_n hX dX6_fewest_2_40 0 rfl 41 rfl ?_
        refine jj_iload hX dX6_fewest_2_41 5 rfl 43 rfl ?_
        refine jj_iload_n hX dX6_fewest_2_43 3 rfl 44 rfl ?_
        refine jj_iload_n hX dX6_fewest_2_44 1 rfl 45 rfl ?_
        refine jj_iload_n hX dX6_fewest_2_45 2 rfl 46 rfl ?_
        refine kxw6_stands hX hY k26 q915 (Nat.le_of_ble_eq_true rfl) (Nat.le_of_ble_eq_true rfl) (Nat.zero_le _) (Nat.zero_le _) (Nat.le_of_ble_eq_true rfl) dX6_fewest_2_46 49 rfl h (fun r46 u46 hb46 h => ?_)
        refine jj_if_ne hX dX6_fewest_2_49 55 52 (by decide) rfl (fun c49 => ?_) (fun c49 => ?_)
        · have h := h.1 c49
          refine jj_aload_n hX dX6_fewest_2_55 0 rfl 56 rfl ?_
          refine xg6_20 hX hY k26 dX6_fewest_2_56 q360 59 rfl ?_
          refine jj_iload_n hX dX6_fewest_2_59 3 rfl 60 rfl ?_
          refine jj_aload_n hX dX6_fewest_2_60 0 rfl 61 rfl ?_
          refine xg6_0 hX hY k26 dX6_fewest_2_61 q334 64 rfl ?_
          obtain ⟨b64, g64, h⟩ := h
          refine jj_st (st2 := [.ref b64, .int x3, va_rf (xr u46 x0 20)]) (by rw [va_rf_some g64]) ?_
          obtain ⟨k64, h⟩ := h
          refine xgn5_0 hX hY k64 dX6_fewest_2_64 nq274 67 rfl ?_
          refine jj_iload hX dX6_fewest_2_67 5 rfl 69 rfl ?_
          obtain ⟨b69, g69, h⟩ := h
          refine jj_st (st2 := [.int x5, .ref b69, .int x3, va_rf (xr u46 x0 20)]) (by rw [va_rf_some g69]) ?_
          obtain ⟨n69, k69, h⟩ := h
          obtain ⟨hi69, h⟩ := h
          refine jx_aald5 hX hY.1 k69 _ rfl hi69 dX6_fewest_2_69 70 rfl ?_
          obtain ⟨b70, g70, h⟩ := h
          refine jj_st (st2 := [.ref b70, .int x3, va_rf (xr u46 x0 20)]) (by rw [va_rf_some g70]) ?_
          obtain ⟨k70, h⟩ := h
          refine xgr_0 hX hY k70 dX6_fewest_2_70 q773 73 rfl ?_
          obtain ⟨b73, g73, h⟩ := h
          refine jj_st (st2 := [.ref b73, .int x3, va_rf (xr u46 x0 20)]) (by rw [va_rf_some g73]) ?_
          obtain ⟨n73, k73, h⟩ := h
          refine jx_alen hX hY.1 k73 dX6_fewest_2_73 74 rfl ?_
          refine jj_iadd hX dX6_fewest_2_74 75 rfl ?_
          obtain ⟨b75, g75, h⟩ := h
          refine jj_st (st2 := [.int (x3 + (nI n73)), .ref b75]) (by rw [va_rf_some g75]) ?_
          obtain ⟨n75, k75, h⟩ := h
          obtain ⟨hi75, h⟩ := h
          refine jx_iald hX hY.1 k75 _ rfl hi75 dX6_fewest_2_75 76 rfl ?_
          refine jj_topi (fun v76 e76 => ?_)
          have h := h v76 e76
          refine jj_istore (lv2 := [(0, .ref x0), (1, .int x1), (2, .int x2), (3, .int x3), (4, .int x4), (5, .int x5), (6, .int v76)]) hX dX6_fewest_2_76 (Nat.le_of_ble_eq_true rfl) [1, 2, 3, 4, 5, 6, 0] rfl 78 rfl ?_
          refine jj_iload hX dX6_fewest_2_78 6 rfl 80 rfl ?_
          refine jj_ldc (v := 2147483647) hX dX6_fewest_2_80 q1207 82 rfl ?_
          refine jj_icmp_ge hX dX6_fewest_2_82 127 85 (by decide) rfl (fun c82 => ?_) (fun c82 => ?_)
          · have h := h.1 c82
            obtain ⟨v127, e127⟩ : ∃ y : Int32, y = x5 + (1 : Int32) := ⟨_, rfl⟩
            have h := h v127 e127
            refine jj_iinc (v := v127) (lv2 := [(0, .ref x0), (1, .int x1), (2, .int x2), (3, .int x3), (4, .int x4), (5, .int v127), (6, .int v76)]) hX dX6_fewest_2_127 5 rfl (by rw [e127, ci_1]) (Nat.le_of_ble_eq_true rfl) [1, 2, 3, 4, 5, 0, 6] rfl 130 rfl ?_
            refine jj_goto hX dX6_fewest_2_130 23 (by decide) ?_
            refine jj_sub (lv2 := [(0, .ref x0), (1, .int x1), (2, .int x2), (3, .int x3), (4, .int x4), (5, .int v127)]) [0, 1, 2, 3, 4, 5] rfl ?_
            exact ih _ _ _ h
          · have h := h.2 c82
            refine jj_iload hX dX6_fewest_2_85 4 rfl 87 rfl ?_
            refine jj_iload hX dX6_fewest_2_87 6 rfl 89 rfl ?_
            refine jj_aload_n hX dX6_fewest_2_89 0 rfl 90 rfl ?_
            refine xg6_0 hX hY k26 dX6_fewest_2_90 q334 93 rfl ?_
            obtain ⟨b93, g93, h⟩ := h
            refine jj_st (st2 := [.ref b93, .int v76, .int x4]) (by rw [va_rf_some g93]) ?_
            obtain ⟨k93, h⟩ := h
            refine xgn5_0 hX hY k93 dX6_fewest_2_93 nq274 96 rfl ?_
            refine jj_iload hX dX6_fewest_2_96 5 rfl 98 rfl ?_
            obtain ⟨b98, g98, h⟩ := h
            refine jj_st (st2 := [.int x5, .ref b98, .int v76, .int x4]) (by rw [va_rf_some g98]) ?_
            obtain ⟨n98, k98, h⟩ := h
            obtain ⟨hi98, h⟩ := h
            refine jx_aald5 hX hY.1 k98 _ rfl hi98 dX6_fewest_2_98 99 rfl ?_
            obtain ⟨b99, g99, h⟩ := h
            refine jj_st (st2 := [.ref b99, .int v76, .int x4]) (by rw [va_rf_some g99]) ?_
            obtain ⟨k99, h⟩ := h
            refine xgr_1 hX hY k99 dX6_fewest_2_99 q776 102 rfl ?_
            obtain ⟨b102, g102, h⟩ := h
            refine jj_st (st2 := [.ref b102, .int v76, .int x4]) (by rw [va_rf_some g102]) ?_
            obtain ⟨n102, k102, h⟩ := h
            refine jx_alen hX hY.1 k102 dX6_fewest_2_102 103 rfl ?_
            refine jj_iadd hX dX6_fewest_2_103 104 rfl ?_
            refine jj_aload_n hX dX6_fewest_2_104 0 rfl 105 rfl ?_
            refine xg6_2 hX hY k26 dX6_fewest_2_105 q338 108 rfl ?_
            refine jj_iload_n hX dX6_fewest_2_108 3 rfl 109 rfl ?_
            obtain ⟨b109, g109, h⟩ := h
            refine jj_st (st2 := [.int x3, .ref b109, .int (v76 + (nI n102)), .int x4]) (by rw [va_rf_some g109]) ?_
            obtain ⟨n109, k109, h⟩ := h
            obtain ⟨hi109, h⟩ := h
            refine jx_bald hX hY.1 k109 _ rfl hi109 dX6_fewest_2_109 110 rfl ?_
            refine knxs_isGreat hX XP.keeps hY.2.1 nq941 (Nat.le_of_ble_eq_true rfl) (Nat.le_of_ble_eq_true rfl) (Nat.zero_le _) (Nat.zero_le _) (Nat.le_of_ble_eq_true rfl) dX6_fewest_2_110 113 rfl h (fun r110 hb110 h => ?_)
            refine jj_if_eq hX dX6_fewest_2_113 120 116 (by decide) rfl (fun c113 => ?_) (fun c113 => ?_)
            · have h := h.1 c113
              refine jj_iconst hX dX6_fewest_2_120 ci_0 121 rfl ?_
              refine jj_iadd hX dX6_fewest_2_121 122 rfl ?_
              refine kjw_min hX XP.keeps q1208 (Nat.le_of_ble_eq_true rfl) (Nat.le_of_ble_eq_true rfl) (Nat.zero_le _) (Nat.zero_le _) (Nat.le_of_ble_eq_true rfl) dX6_fewest_2_122 125 rfl h (fun r122 h => ?_)
              refine jj_istore (lv2 := [(0, .ref x0), (1, .int x1), (2, .int x2), (3, .int x3), (4, .int r122), (5, .int x5)]) hX dX6_fewest_2_125 (Nat.le_of_ble_eq_true rfl) [1, 2, 3, 4, 0, 5] rfl 127 rfl ?_
              obtain ⟨v127, e127⟩ : ∃ y : Int32, y = x5 + (1 : Int32) := ⟨_, rfl⟩
              have h := h v127 e127
              refine jj_iinc (v := v127) (lv2 := [(0, .ref x0), (1, .int x1), (2, .int x2), (3, .int x3), (4, .int r122), (5, .int v127)]) hX dX6_fewest_2_127 5 rfl (by rw [e127, ci_1]) (Nat.le_of_ble_eq_true rfl) [1, 2, 3, 4, 5, 0] rfl 130 rfl ?_
              refine jj_goto hX dX6_fewest_2_130 23 (by decide) ?_
              exact ih _ _ _ h
            · have h := h.2 c113
              refine jj_iconst hX dX6_fewest_2_116 ci_1 117 rfl ?_
              refine jj_goto hX dX6_fewest_2_117 121 (by decide) ?_
              refine jj_iadd hX dX6_fewest_2_121 122 rfl ?_
              refine kjw_min hX XP.keeps q1208 (Nat.le_of_ble_eq_true rfl) (Nat.le_of_ble_eq_true rfl) (Nat.zero_le _) (Nat.zero_le _) (Nat.le_of_ble_eq_true rfl) dX6_fewest_2_122 125 rfl h (fun r122 h => ?_)
              refine jj_istore (lv2 := [(0, .ref x0), (1, .int x1), (2, .int x2), (3, .int x3), (4, .int r122), (5, .int x5)]) hX dX6_fewest_2_125 (Nat.le_of_ble_eq_true rfl) [1, 2, 3, 4, 0, 5] rfl 127 rfl ?_
              obtain ⟨v127, e127⟩ : ∃ y : Int32, y = x5 + (1 : Int32) := ⟨_, rfl⟩
              have h := h v127 e127
              refine jj_iinc (v := v127) (lv2 := [(0, .ref x0), (1, .int x1), (2, .int x2), (3, .int x3), (4, .int r122), (5, .int v127)]) hX dX6_fewest_2_127 5 rfl (by rw [e127, ci_1]) (Nat.le_of_ble_eq_true rfl) [1, 2, 3, 4, 5, 0] rfl 130 rfl ?_
              refine jj_goto hX dX6_fewest_2_130 23 (by decide) ?_
              exact ih _ _ _ h
        · have h := h.2 c49
          refine jj_goto hX dX6_fewest_2_52 127 (by decide) ?_
          obtain ⟨v127, e127⟩ : ∃ y : Int32, y = x5 + (1 : Int32) := ⟨_, rfl⟩
          have h := h v127 e127
          refine jj_iinc (v := v127) (lv2 := [(0, .ref x0), (1, .int x1), (2, .int x2), (3, .int x3), (4, .int x4), (5, .int v127)]) hX dX6_fewest_2_127 5 rfl (by rw [e127, ci_1]) (Nat.le_of_ble_eq_true rfl) [1, 2, 3, 4, 5, 0] rfl 130 rfl ?_
          refine jj_goto hX dX6_fewest_2_130 23 (by decide) ?_
          exact ih _ _ _ h
set_option maxHeartbeats 4000000 in
set_option maxRecDepth 100000 in
theorem txw6_fewest_2_L2 {X : JC} {D : va_G} {dA aK aV : Nat → Nat} {sz : Nat} {K : XK} {Post : Int32 → XS → Prop} {x0 : Nat} {x1 : Int32} {x2 : Int32} (hX : JX X yX6_fewest_2.cls cX6_fewest_2 7 (Option.some Jvm.ClassFile.FieldType.int) 3 67 0 0) (hY : JY X D dA aK aV (AX K sz)) : ∀ (n : Nat) (x3 : Int32) (u : XS), xw6_fewest_2_L2 Post K x0 x1 x2 n x3 u → JJ X (AX K sz) (jj_Q X (va_Qi (fun (r : Int32) (w : XS) => Post r w) (jx_B D dA K) (AX K sz)) 0 0 (AX K sz)) 7 (XP D dA (AX K sz) K u) 0 0 2 [(0, .ref x0), (1, .int x1), (2, .int x2), (3, .int x3)] [] := by
  intro n
  induction n with
  | zero =>
    intro x3 u h
    exact h.elim
  | succ n ih =>
    intro x3 u h
    have h : xw6_fewest_2_L2_S Post K x0 x1 x2 (xw6_fewest_2_L2 Post K x0 x1 x2 n) x3 u := h
    unfold xw6_fewest_2_L2_S at h
    refine jj_iload_n hX dX6_fewest_2_2 3 rfl 3 rfl ?_
    refine jj_iload_n hX dX6_fewest_2_3 1 rfl 4 rfl ?_
    refine jj_icmp_lt hX dX6_fewest_2_4 147 7 (by decide) rfl (fun c4 => ?_) (fun c4 => ?_)
    · have h := h.1 c4
      refine jj_aload_n hX dX6_fewest_2_147 0 rfl 148 rfl ?_
      obtain ⟨k148, h⟩ := h
      refine xg6_20 hX hY k148 dX6_fewest_2_148 q360 151 rfl ?_
      refine jj_iload_n hX dX6_fewest_2_151 1 rfl 152 rfl ?_
      obtain ⟨b152, g152, h⟩ := h
      refine jj_st (st2 := [.int x1, .ref b152]) (by rw [va_rf_some g152]) ?_
      obtain ⟨n152, k152, h⟩ := h
      obtain ⟨hi152, h⟩ := h
      refine jx_iald hX hY.1 k152 _ rfl hi152 dX6_fewest_2_152 153 rfl ?_
      exact jj_reti (post := (fun (r : Int32) (w : XS) => Post r w)) (u := u) hX dX6_fewest_2_153 (Nat.le_refl 0) (Nat.le_refl 0) jx_hB h
    · have h := h.2 c4
      refine jj_iload_n hX dX6_fewest_2_7 3 rfl 8 rfl ?_
      refine jj_iload_n hX dX6_fewest_2_8 2 rfl 9 rfl ?_
      refine jj_icmp_ne hX dX6_fewest_2_9 16 12 (by decide) rfl (fun c9 => ?_) (fun c9 => ?_)
      · have h := h.1 c9
        refine jj_ldc (v := 2147483647) hX dX6_fewest_2_16 q1207 18 rfl ?_
        refine jj_istore (lv2 := [(0, .ref x0), (1, .int x1), (2, .int x2), (3, .int x3), (4, .int (2147483647 : Int32))]) hX dX6_fewest_2_18 (Nat.le_of_ble_eq_true rfl) [1, 2, 3, 4, 0] rfl 20 rfl ?_
        refine jj_iconst hX dX6_fewest_2_20 ci_0 21 rfl ?_
        refine jj_istore (lv2 := [(0, .ref x0), (1, .int x1), (2, .int x2), (3, .int x3), (4, .int (2147483647 : Int32)), (5, .int (0 : Int32))]) hX dX6_fewest_2_21 (Nat.le_of_ble_eq_true rfl) [1, 2, 3, 4, 5, 0] rfl 23 rfl ?_
        obtain ⟨n9, h⟩ := h
        exact txw6_fewest_2_L23 hX hY ih n9 _ _ _ h
      · have h := h.2 c9
        refine jj_iconst hX dX6_fewest_2_12 ci_0 13 rfl ?_
        refine jj_goto hX dX6_fewest_2_13 18 (by decide) ?_
        refine jj_istore (lv2 := [(0, .ref x0), (1, .int x1), (2, .int x2), (3, .int x3), (4, .int (0 : Int32))]) hX dX6_fewest_2_18 (Nat.le_of_ble_eq_true rfl) [1, 2, 3, 4, 0] rfl 20 rfl ?_
        refine jj_iconst hX dX6_fewest_2_20 ci_0 21 rfl ?_
        refine jj_istore (lv2 := [(0, .ref x0), (1, .int x1), (2, .int x2), (3, .int x3), (4, .int (0 : Int32)), (5, .int (0 : Int32))]) hX dX6_fewest_2_21 (Nat.le_of_ble_eq_true rfl) [1, 2, 3, 4, 5, 0] rfl 23 rfl ?_
        obtain ⟨n9, h⟩ := h
        exact txw6_fewest_2_L23 hX hY ih n9 _ _ _ h
set_option maxHeartbeats 4000000 in
set_option maxRecDepth 100000 in
theorem mxw6_fewest_2 (l : Launch) (hfl : l.stackTraces = false) (D : va_G) (dA aK aV : Nat → Nat) (x0 : Nat) (x1 : Int32) (x2 : Int32) (K : XK) (u : XS) (Post : Int32 → XS → Prop) (h : xw6_fewest_2 x0 x1 x2 K u Post) (sz : Nat) : Met l yX6_fewest_2 (ws_ yX6_fewest_2 cX6_fewest_2 7 (Option.some Jvm.ClassFile.FieldType.int)) (jx_rm 3 67 0 0) (jx_Pc D dA aK aV K u sz [.ref x0, .int x1, .int x2]) (va_Qi (fun (r : Int32) (w : XS) => Post r w) (jx_B D dA K) (AX K sz)) 0 0 (AX K sz) := by
  refine jx_start hfl [.ref x0, .int x1, .int x2] [(0, .ref x0), (1, .int x1), (2, .int x2)] (by decide) (Nat.le_of_ble_eq_true rfl) rfl (fun X hX hY hin => ?_)
  unfold xw6_fewest_2 at h
  refine jj_iload_n hX dX6_fewest_2_0 2 rfl 1 rfl ?_
  refine jj_istore_n (lv2 := [(0, .ref x0), (1, .int x1), (2, .int x2), (3, .int x2)]) hX dX6_fewest_2_1 (Nat.le_of_ble_eq_true rfl) [1, 2, 3, 0] rfl 2 rfl ?_
  obtain ⟨n9, h⟩ := h
  exact txw6_fewest_2_L2 hX hY n9 _ _ h
theorem hd_xw6_fewest_2 : yX6_fewest_2.cls ≠ "java/lang/invoke/MethodHandle" ∧ yX6_fewest_2.cls ≠ "java/lang/invoke/VarHandle" ∧ (parseMethodDescriptor yX6_fewest_2.desc).map (fun d => d.parameters.length) = some 2 := by decide +kernel
theorem kxw6_fewest_2 {X : JC} {A : Nat → Prop} {Q : State → Prop} {nL k n pc : Nat} {lv : List (Nat × Value)} {st : List Value} {own : String} {cc : ByteArray} {ret : Option FieldType} {F LL mc ms ix : Nat} {D : va_G} {dA aK aV : Nat → Nat} {K : XK} {u : XS} {x0 : Nat} {x1 : Int32} {x2 : Int32} {Post : Int32 → XS → Prop} (hX : JX X own cc nL ret F LL mc ms) (hY : JY X D dA aK aV A) (h1a : K x0 = (1, 6)) (hlk : (Cond.methodLink own ix yX6_fewest_2) ∈ lw_all) (hF : 3 + 1 ≤ F) (hL : 8 + (7 + 11) + 67 ≤ LL) (hk : k ≤ mc) (hk2 : n ≤ ms) (hw : (st.map fun v => v.category).sum ≤ 8) (d : decode cc pc = .ok (.invokevirtual ix, 3)) (q : Nat) (hq : pc + 3 = q) (h : xw6_fewest_2 x0 x1 x2 K u  Post) (kk : ∀ (r : Int32) (u2 : XS), Post r u2 → JJ X A Q nL (XP D dA A K u2) k n q lv (.int r :: st)) : JJ X A Q nL (XP D dA A K u) k n pc lv (.int x2 :: .int x1 :: .ref x0 :: st) :=
  jx_callVi (na := 2) (As := [.int x1, .int x2]) hX hY jf6 h1a (fun sz => mxw6_fewest_2 (jj_l X) hY.2.2.2.2 D dA aK aV x0 x1 x2 K u  Post h sz) hlk q1205 qs41 q128 q1206 ⟨rfl, hd_xw6_fewest_2⟩ rfl rfl hw hF hL hk hk2 d q hq kk
theorem knxw6_fewest_2 {X : JC} {A : Nat → Prop} {Q : State → Prop} {nL k n pc : Nat} {lv : List (Nat × Value)} {st : List Value} {own : String} {cc : ByteArray} {ret : Option FieldType} {F LL mc ms ix : Nat} {D : va_G} {dA aK aV : Nat → Nat} {K : XK} {u : XS} {x0 : Nat} {x1 : Int32} {x2 : Int32} {host : String} {Post : Int32 → XS → Prop} (hX : JX X own cc nL ret F LL mc ms) (hY : JY X D dA aK aV A) (h1a : K x0 = (1, 6)) (hlk : (Cond.methodLinkNest own ix yX6_fewest_2 host) ∈ jx_nest) (hF : 3 + 1 ≤ F) (hL : 8 + (7 + 11) + 67 ≤ LL) (hk : k ≤ mc) (hk2 : n ≤ ms) (hw : (st.map fun v => v.category).sum ≤ 8) (d : decode cc pc = .ok (.invokevirtual ix, 3)) (q : Nat) (hq : pc + 3 = q) (h : xw6_fewest_2 x0 x1 x2 K u  Post) (kk : ∀ (r : Int32) (u2 : XS), Post r u2 → JJ X A Q nL (XP D dA A K u2) k n q lv (.int r :: st)) : JJ X A Q nL (XP D dA A K u) k n pc lv (.int x2 :: .int x1 :: .ref x0 :: st) :=
  jx_callNi (na := 2) (As := [.int x1, .int x2]) hX hY jf6 h1a (fun sz => mxw6_fewest_2 (jj_l X) hY.2.2.2.2 D dA aK aV x0 x1 x2 K u  Post h sz) hlk q1205 qs41 q128 q1206 hd_xw6_fewest_2 rfl rfl hw hF hL hk hk2 d q hq kk
def xw6_fewest_L51_S (G7 : Int32 → Int32 → XS → Prop) (Post : Int32 → XS → Prop) (K : XK) (x0 : Nat) (x3 : Int32) (R : Int32 → Int32 → XS → Prop) (x1 : Int32) (x4 : Int32) (u : XS) : Prop :=
  (x3 ≤ x4 →
    G7 x1 x3 u) ∧
  (¬ x3 ≤ x4 →
    K x0 = (1, 6) ∧
    ∃ b64, (xr u x0 2) = some b64 ∧
    ∃ n64, K b64 = (3, n64) ∧
    vp_in x4 n64 ∧
    xs_isGreat (xi u b64 x4.toNatClampNeg) (fun r65 =>
      (r65 = 0 →
        ∀ v77 : Int32, v77 = (x1 - (0 : Int32)) →
        ∀ v78 : Int32, v78 = x4 + (1 : Int32) →
        R v77 v78 u) ∧
      (¬ r65 = 0 →
        ∀ v77 : Int32, v77 = (x1 - (1 : Int32)) →
        ∀ v78 : Int32, v78 = x4 + (1 : Int32) →
        R v77 v78 u)))
def xw6_fewest_L51 (G7 : Int32 → Int32 → XS → Prop) (Post : Int32 → XS → Prop) (K : XK) (x0 : Nat) (x3 : Int32) : Nat → Int32 → Int32 → XS → Prop
  | 0 => fun _ _ _ => False
  | n + 1 => fun x1 x4 u => xw6_fewest_L51_S G7 Post K x0 x3 (xw6_fewest_L51 G7 Post K x0 x3 n) x1 x4 u
def xw6_fewest_L7_S (Post : Int32 → XS → Prop) (K : XK) (x0 : Nat) (R : Int32 → Int32 → XS → Prop) (x1 : Int32) (x2 : Int32) (u : XS) : Prop :=
  K x0 = (1, 6) ∧
  ((xi u x0 3) ≤ x2 →
    Post (x1 - (xi u x0 7)) u) ∧
  (¬ (xi u x0 3) ≤ x2 →
    ∃ b20, (xr u x0 2) = some b20 ∧
    ∃ n20, K b20 = (3, n20) ∧
    vp_in x2 n20 ∧
    xs_isLetter (xi u b20 x2.toNatClampNeg) (fun r21 =>
      (¬ r21 = 0 →
        xw6_wordEnd x0 x2 K u (fun r35 u35 =>
          xw6_fewest_2 x0 x2 r35 K u35 (fun r43 u43 =>
            ∀ v47 : Int32, v47 = (x1 + r43) →
            ∃ n, xw6_fewest_L51 R Post K x0 r35 n v47 x2 u43))) ∧
      (r21 = 0 →
        ∀ v27 : Int32, v27 = x2 + (1 : Int32) →
        R x1 v27 u)))
def xw6_fewest_L7 (Post : Int32 → XS → Prop) (K : XK) (x0 : Nat) : Nat → Int32 → Int32 → XS → Prop
  | 0 => fun _ _ _ => False
  | n + 1 => fun x1 x2 u => xw6_fewest_L7_S Post K x0 (xw6_fewest_L7 Post K x0 n) x1 x2 u
/-- RaisedPress$Setter.fewest()I -/
def xw6_fewest (x0 : Nat) (K : XK) (u : XS) (Post : Int32 → XS → Prop) : Prop :=
  K x0 = (1, 6) ∧
  ∀ v4 : Int32, v4 = (xi u x0 4) →
  ∃ n, xw6_fewest_L7 Post K x0 n v4 (0 : Int32) u
set_option maxHeartbeats 4000000 in
set_option maxRecDepth 100000 in
theorem txw6_fewest_L51 {X : JC} {D : va_G} {dA aK aV : Nat → Nat} {sz : Nat} {K : XK} {G7 : Int32 → Int32 → XS → Prop} {Post : Int32 → XS → Prop} {x0 : Nat} {x3 : Int32} (hX : JX X yX6_fewest.cls cX6_fewest 5 (Option.some Jvm.ClassFile.FieldType.int) 4 93 0 0) (hY : JY X D dA aK aV (AX K sz)) (hG7 : ∀ (y1 : Int32) (y2 : Int32) (u : XS), G7 y1 y2 u → JJ X (AX K sz) (jj_Q X (va_Qi (fun (r : Int32) (w : XS) => Post r w) (jx_B D dA K) (AX K sz)) 0 0 (AX K sz)) 5 (XP D dA (AX K sz) K u) 0 0 7 [(0, .ref x0), (1, .int y1), (2, .int y2)] []) : ∀ (n : Nat) (x1 : Int32) (x4 : Int32) (u : XS), xw6_fewest_L51 G7 Post K x0 x3 n x1 x4 u → JJ X (AX K sz) (jj_Q X (va_Qi (fun (r : Int32) (w : XS) => Post r w) (jx_B D dA K) (AX K sz)) 0 0 (AX K sz)) 5 (XP D dA (AX K sz) K u) 0 0 51 [(0, .ref x0), (1, .int x1), (3, .int x3), (4, .int x4)] [] := by
  intro n
  induction n with
  | zero =>
    intro x1 x4 u h
    exact h.elim
  | succ n ih =>
    intro x1 x4 u h
    have h : xw6_fewest_L51_S G7 Post K x0 x3 (xw6_fewest_L51 G7 Post K x0 x3 n) x1 x4 u := h
    unfold xw6_fewest_L51_S at h
    refine jj_iload hX dX6_fewest_51 3 rfl 53 rfl ?_
    refine jj_iload_n hX dX6_fewest_53 2 rfl 54 rfl ?_
    refine jj_icmp_ge hX dX6_fewest_54 84 57 (by decide) rfl (fun c54 => ?_) (fun c54 => ?_)
    · have h := h.1 c54
      refine jj_iload_n hX dX6_fewest_84 2 rfl 85 rfl ?_
      refine jj_istore_n (lv2 := [(0, .ref x0), (1, .int x1), (2, .int x3)]) hX dX6_fewest_85 (Nat.le_of_ble_eq_true rfl) [1, 2, 0] rfl 86 rfl ?_
      refine jj_goto hX dX6_fewest_86 7 (by decide) ?_
      exact hG7 _ _ _ h
    · have h := h.2 c54
      refine jj_iload_n hX dX6_fewest_57 1 rfl 58 rfl ?_
      refine jj_aload_n hX dX6_fewest_58 0 rfl 59 rfl ?_
      obtain ⟨k59, h⟩ := h
      refine xg6_2 hX hY k59 dX6_fewest_59 q338 62 rfl ?_
      refine jj_iload hX dX6_fewest_62 3 rfl 64 rfl ?_
      obtain ⟨b64, g64, h⟩ := h
      refine jj_st (st2 := [.int x4, .ref b64, .int x1]) (by rw [va_rf_some g64]) ?_
      obtain ⟨n64, k64, h⟩ := h
      obtain ⟨hi64, h⟩ := h
      refine jx_bald hX hY.1 k64 _ rfl hi64 dX6_fewest_64 65 rfl ?_
      refine knxs_isGreat hX XP.keeps hY.2.1 nq941 (Nat.le_of_ble_eq_true rfl) (Nat.le_of_ble_eq_true rfl) (Nat.zero_le _) (Nat.zero_le _) (Nat.le_of_ble_eq_true rfl) dX6_fewest_65 68 rfl h (fun r65 hb65 h => ?_)
      refine jj_if_eq hX dX6_fewest_68 75 71 (by decide) rfl (fun c68 => ?_) (fun c68 => ?_)
      · have h := h.1 c68
        refine jj_iconst hX dX6_fewest_75 ci_0 76 rfl ?_
        refine jj_isub hX dX6_fewest_76 77 rfl ?_
        refine jj_topi (fun v77 e77 => ?_)
        have h := h v77 e77
        refine jj_istore_n (lv2 := [(0, .ref x0), (1, .int v77), (3, .int x3), (4, .int x4)]) hX dX6_fewest_77 (Nat.le_of_ble_eq_true rfl) [1, 0, 2, 3] rfl 78 rfl ?_
        obtain ⟨v78, e78⟩ : ∃ y : Int32, y = x4 + (1 : Int32) := ⟨_, rfl⟩
        have h := h v78 e78
        refine jj_iinc (v := v78) (lv2 := [(0, .ref x0), (1, .int v77), (3, .int x3), (4, .int v78)]) hX dX6_fewest_78 3 rfl (by rw [e78, ci_1]) (Nat.le_of_ble_eq_true rfl) [1, 2, 3, 0] rfl 81 rfl ?_
        refine jj_goto hX dX6_fewest_81 51 (by decide) ?_
        exact ih _ _ _ h
      · have h := h.2 c68
        refine jj_iconst hX dX6_fewest_71 ci_1 72 rfl ?_
        refine jj_goto hX dX6_fewest_72 76 (by decide) ?_
        refine jj_isub hX dX6_fewest_76 77 rfl ?_
        refine jj_topi (fun v77 e77 => ?_)
        have h := h v77 e77
        refine jj_istore_n (lv2 := [(0, .ref x0), (1, .int v77), (3, .int x3), (4, .int x4)]) hX dX6_fewest_77 (Nat.le_of_ble_eq_true rfl) [1, 0, 2, 3] rfl 78 rfl ?_
        obtain ⟨v78, e78⟩ : ∃ y : Int32, y = x4 + (1 : Int32) := ⟨_, rfl⟩
        have h := h v78 e78
        refine jj_iinc (v := v78) (lv2 := [(0, .ref x0), (1, .int v77), (3, .int x3), (4, .int v78)]) hX dX6_fewest_78 3 rfl (by rw [e78, ci_1]) (Nat.le_of_ble_eq_true rfl) [1, 2, 3, 0] rfl 81 rfl ?_
        refine jj_goto hX dX6_fewest_81 51 (by decide) ?_
        exact ih _ _ _ h
set_option maxHeartbeats 4000000 in
set_option maxRecDepth 100000 in
theorem txw6_fewest_L7 {X : JC} {D : va_G} {dA aK aV : Nat → Nat} {sz : Nat} {K : XK} {Post : Int32 → XS → Prop} {x0 : Nat} (hX : JX X yX6_fewest.cls cX6_fewest 5 (Option.some Jvm.ClassFile.FieldType.int) 4 93 0 0) (hY : JY X D dA aK aV (AX K sz)) : ∀ (n : Nat) (x1 : Int32) (x2 : Int32) (u : XS), xw6_fewest_L7 Post K x0 n x1 x2 u → JJ X (AX K sz) (jj_Q X (va_Qi (fun (r : Int32) (w : XS) => Post r w) (jx_B D dA K) (AX K sz)) 0 0 (AX K sz)) 5 (XP D dA (AX K sz) K u) 0 0 7 [(0, .ref x0), (1, .int x1), (2, .int x2)] [] := by
  intro n
  induction n with
  | zero =>
    intro x1 x2 u h
    exact h.elim
  | succ n ih =>
    intro x1 x2 u h
    have h : xw6_fewest_L7_S Post K x0 (xw6_fewest_L7 Post K x0 n) x1 x2 u := h
    unfold xw6_fewest_L7_S at h
    refine jj_iload_n hX dX6_fewest_7 2 rfl 8 rfl ?_
    refine jj_aload_n hX dX6_fewest_8 0 rfl 9 rfl ?_
    obtain ⟨k9, h⟩ := h
    refine xg6_3 hX hY k9 dX6_fewest_9 q340 12 rfl ?_
    refine jj_icmp_ge hX dX6_fewest_12 89 15 (by decide) rfl (fun c12 => ?_) (fun c12 => ?_)
    · have h := h.1 c12
      refine jj_iload_n hX dX6_fewest_89 1 rfl 90 rfl ?_
      refine jj_aload_n hX dX6_fewest_90 0 rfl 91 rfl ?_
      refine xg6_7 hX hY k9 dX6_fewest_91 q346 94 rfl ?_
      refine jj_isub hX dX6_fewest_94 95 rfl ?_
      exact jj_reti (post := (fun (r : Int32) (w : XS) => Post r w)) (u := u) hX dX6_fewest_95 (Nat.le_refl 0) (Nat.le_refl 0) jx_hB h
    · have h := h.2 c12
      refine jj_aload_n hX dX6_fewest_15 0 rfl 16 rfl ?_
      refine xg6_2 hX hY k9 dX6_fewest_16 q338 19 rfl ?_
      refine jj_iload_n hX dX6_fewest_19 2 rfl 20 rfl ?_
      obtain ⟨b20, g20, h⟩ := h
      refine jj_st (st2 := [.int x2, .ref b20]) (by rw [va_rf_some g20]) ?_
      obtain ⟨n20, k20, h⟩ := h
      obtain ⟨hi20, h⟩ := h
      refine jx_bald hX hY.1 k20 _ rfl hi20 dX6_fewest_20 21 rfl ?_
      refine knxs_isLetter hX XP.keeps hY.2.1 nq896 (Nat.le_of_ble_eq_true rfl) (Nat.le_of_ble_eq_true rfl) (Nat.zero_le _) (Nat.zero_le _) (Nat.le_of_ble_eq_true rfl) dX6_fewest_21 24 rfl h (fun r21 hb21 h => ?_)
      refine jj_if_ne hX dX6_fewest_24 33 27 (by decide) rfl (fun c24 => ?_) (fun c24 => ?_)
      · have h := h.1 c24
        refine jj_aload_n hX dX6_fewest_33 0 rfl 34 rfl ?_
        refine jj_iload_n hX dX6_fewest_34 2 rfl 35 rfl ?_
        refine kxw6_wordEnd hX hY k9 q907 (Nat.le_of_ble_eq_true rfl) (Nat.le_of_ble_eq_true rfl) (Nat.zero_le _) (Nat.zero_le _) (Nat.le_of_ble_eq_true rfl) dX6_fewest_35 38 rfl h (fun r35 u35 h => ?_)
        refine jj_istore_n (lv2 := [(0, .ref x0), (1, .int x1), (2, .int x2), (3, .int r35)]) hX dX6_fewest_38 (Nat.le_of_ble_eq_true rfl) [1, 2, 3, 0] rfl 39 rfl ?_
        refine jj_iload_n hX dX6_fewest_39 1 rfl 40 rfl ?_
        refine jj_aload_n hX dX6_fewest_40 0 rfl 41 rfl ?_
        refine jj_iload_n hX dX6_fewest_41 2 rfl 42 rfl ?_
        refine jj_iload_n hX dX6_fewest_42 3 rfl 43 rfl ?_
        refine kxw6_fewest_2 hX hY k9 q1203 (Nat.le_of_ble_eq_true rfl) (Nat.le_of_ble_eq_true rfl) (Nat.zero_le _) (Nat.zero_le _) (Nat.le_of_ble_eq_true rfl) dX6_fewest_43 46 rfl h (fun r43 u43 h => ?_)
        refine jj_iadd hX dX6_fewest_46 47 rfl ?_
        refine jj_topi (fun v47 e47 => ?_)
        have h := h v47 e47
        refine jj_istore_n (lv2 := [(0, .ref x0), (1, .int v47), (2, .int x2), (3, .int r35)]) hX dX6_fewest_47 (Nat.le_of_ble_eq_true rfl) [1, 0, 2, 3] rfl 48 rfl ?_
        refine jj_iload_n hX dX6_fewest_48 2 rfl 49 rfl ?_
        refine jj_istore (lv2 := [(0, .ref x0), (1, .int v47), (3, .int r35), (4, .int x2)]) hX dX6_fewest_49 (Nat.le_of_ble_eq_true rfl) [1, 2, 4, 0] rfl 51 rfl ?_
        obtain ⟨n9, h⟩ := h
        exact txw6_fewest_L51 hX hY ih n9 _ _ _ h
      · have h := h.2 c24
        obtain ⟨v27, e27⟩ : ∃ y : Int32, y = x2 + (1 : Int32) := ⟨_, rfl⟩
        have h := h v27 e27
        refine jj_iinc (v := v27) (lv2 := [(0, .ref x0), (1, .int x1), (2, .int v27)]) hX dX6_fewest_27 2 rfl (by rw [e27, ci_1]) (Nat.le_of_ble_eq_true rfl) [1, 2, 0] rfl 30 rfl ?_
        refine jj_goto hX dX6_fewest_30 7 (by decide) ?_
        exact ih _ _ _ h
set_option maxHeartbeats 4000000 in
set_option maxRecDepth 100000 in
theorem mxw6_fewest (l : Launch) (hfl : l.stackTraces = false) (D : va_G) (dA aK aV : Nat → Nat) (x0 : Nat) (K : XK) (u : XS) (Post : Int32 → XS → Prop) (h : xw6_fewest x0 K u Post) (sz : Nat) : Met l yX6_fewest (ws_ yX6_fewest cX6_fewest 5 (Option.some Jvm.ClassFile.FieldType.int)) (jx_rm 4 93 0 0) (jx_Pc D dA aK aV K u sz [.ref x0]) (va_Qi (fun (r : Int32) (w : XS) => Post r w) (jx_B D dA K) (AX K sz)) 0 0 (AX K sz) := by
  refine jx_start hfl [.ref x0] [(0, .ref x0)] (by decide) (Nat.le_of_ble_eq_true rfl) rfl (fun X hX hY hin => ?_)
  unfold xw6_fewest at h
  refine jj_aload_n hX dX6_fewest_0 0 rfl 1 rfl ?_
  obtain ⟨k1, h⟩ := h
  refine xg6_4 hX hY k1 dX6_fewest_1 q342 4 rfl ?_
  refine jj_topi (fun v4 e4 => ?_)
  have h := h v4 e4
  refine jj_istore_n (lv2 := [(0, .ref x0), (1, .int v4)]) hX dX6_fewest_4 (Nat.le_of_ble_eq_true rfl) [1, 0] rfl 5 rfl ?_
  refine jj_iconst hX dX6_fewest_5 ci_0 6 rfl ?_
  refine jj_istore_n (lv2 := [(0, .ref x0), (1, .int v4), (2, .int (0 : Int32))]) hX dX6_fewest_6 (Nat.le_of_ble_eq_true rfl) [1, 2, 0] rfl 7 rfl ?_
  obtain ⟨n9, h⟩ := h
  exact txw6_fewest_L7 hX hY n9 _ _ _ h
theorem hd_xw6_fewest : yX6_fewest.cls ≠ "java/lang/invoke/MethodHandle" ∧ yX6_fewest.cls ≠ "java/lang/invoke/VarHandle" ∧ (parseMethodDescriptor yX6_fewest.desc).map (fun d => d.parameters.length) = some 0 := by decide +kernel
theorem kxw6_fewest {X : JC} {A : Nat → Prop} {Q : State → Prop} {nL k n pc : Nat} {lv : List (Nat × Value)} {st : List Value} {own : String} {cc : ByteArray} {ret : Option FieldType} {F LL mc ms ix : Nat} {D : va_G} {dA aK aV : Nat → Nat} {K : XK} {u : XS} {x0 : Nat} {Post : Int32 → XS → Prop} (hX : JX X own cc nL ret F LL mc ms) (hY : JY X D dA aK aV A) (h1a : K x0 = (1, 6)) (hlk : (Cond.methodLink own ix yX6_fewest) ∈ lw_all) (hF : 4 + 1 ≤ F) (hL : 8 + (5 + 11) + 93 ≤ LL) (hk : k ≤ mc) (hk2 : n ≤ ms) (hw : (st.map fun v => v.category).sum ≤ 8) (d : decode cc pc = .ok (.invokevirtual ix, 3)) (q : Nat) (hq : pc + 3 = q) (h : xw6_fewest x0 K u  Post) (kk : ∀ (r : Int32) (u2 : XS), Post r u2 → JJ X A Q nL (XP D dA A K u2) k n q lv (.int r :: st)) : JJ X A Q nL (XP D dA A K u) k n pc lv (.ref x0 :: st) :=
  jx_callVi (na := 0) (As := []) hX hY jf6 h1a (fun sz => mxw6_fewest (jj_l X) hY.2.2.2.2 D dA aK aV x0 K u  Post h sz) hlk q1200 q1201 q128 q1202 ⟨rfl, hd_xw6_fewest⟩ rfl rfl hw hF hL hk hk2 d q hq kk
theorem knxw6_fewest {X : JC} {A : Nat → Prop} {Q : State → Prop} {nL k n pc : Nat} {lv : List (Nat × Value)} {st : List Value} {own : String} {cc : ByteArray} {ret : Option FieldType} {F LL mc ms ix : Nat} {D : va_G} {dA aK aV : Nat → Nat} {K : XK} {u : XS} {x0 : Nat} {host : String} {Post : Int32 → XS → Prop} (hX : JX X own cc nL ret F LL mc ms) (hY : JY X D dA aK aV A) (h1a : K x0 = (1, 6)) (hlk : (Cond.methodLinkNest own ix yX6_fewest host) ∈ jx_nest) (hF : 4 + 1 ≤ F) (hL : 8 + (5 + 11) + 93 ≤ LL) (hk : k ≤ mc) (hk2 : n ≤ ms) (hw : (st.map fun v => v.category).sum ≤ 8) (d : decode cc pc = .ok (.invokevirtual ix, 3)) (q : Nat) (hq : pc + 3 = q) (h : xw6_fewest x0 K u  Post) (kk : ∀ (r : Int32) (u2 : XS), Post r u2 → JJ X A Q nL (XP D dA A K u2) k n q lv (.int r :: st)) : JJ X A Q nL (XP D dA A K u) k n pc lv (.ref x0 :: st) :=
  jx_callNi (na := 0) (As := []) hX hY jf6 h1a (fun sz => mxw6_fewest (jj_l X) hY.2.2.2.2 D dA aK aV x0 K u  Post h sz) hlk q1200 q1201 q128 q1202 hd_xw6_fewest rfl rfl hw hF hL hk hk2 d q hq kk
def xw0_fewest_B38 (Post : Int32 → XK → XS → Prop) (mc ms : Nat) (x0 : Nat) (s0 : Int32) (s1 : Nat) (K : XK) (u : XS) (c s : Nat) : Prop :=
  K s1 = (1, 0) ∧
  ∀ u38 : XS, u38 = xsi u s1 7 s0 →
  K x0 = (1, 0) ∧
  ((xi u38 x0 7) ≤ 0 →
    ∃ m53 w53, (c + m53) ≤ mc ∧ (s + w53) ≤ ms ∧ xw0_setter x0 K u38 m53 w53 (fun r53 K53 u53 =>
      K53 r53 = (1, 6) ∧
      xw6_fewest r53 K53 u53 (fun r56 u56 =>
        Post r56 K53 u56))) ∧
  (¬ (xi u38 x0 7) ≤ 0 →
    Post (-1 : Int32) K u38)
/-- RaisedPress.fewest()I -/
def xw0_fewest (x0 : Nat) (K : XK) (u : XS) (mc ms : Nat) (Post : Int32 → XK → XS → Prop) : Prop :=
  K x0 = (1, 0) ∧
  xw0_whyNotSet x0 K u (fun r2 u2 =>
    ∀ u5 : XS, u5 = xsi u2 x0 7 r2 →
    ((xi u5 x0 7) ≤ 0 →
      ∃ b23, (xr u5 x0 10) = some b23 ∧
      K b23 = (1, 4) ∧
      ∃ m26 w26, m26 ≤ mc ∧ w26 ≤ ms ∧ xw0_setsWithout x0 (xi u5 b23 1) K u5 m26 w26 (fun r26 K26 u26 =>
        (0 ≤ r26 →
          xw0_fewest_B38 Post mc ms x0 (0 : Int32) x0 K26 u26 m26 w26) ∧
        (¬ 0 ≤ r26 →
          xw0_fewest_B38 Post mc ms x0 (7 : Int32) x0 K26 u26 m26 w26))) ∧
    (¬ (xi u5 x0 7) ≤ 0 →
      Post (-1 : Int32) K u5))
set_option maxHeartbeats 4000000 in
set_option maxRecDepth 100000 in
theorem txw0_fewest_B38 {X : JC} {D : va_G} {dA aK aV : Nat → Nat} {sz : Nat} {K0 : XK} {mc ms : Nat} {Post : Int32 → XK → XS → Prop} {x0 : Nat} {s0 : Int32} {s1 : Nat} {K : XK} {u : XS} {c s : Nat} (hX : JX X yX0_fewest.cls cX0_fewest 1 (Option.some Jvm.ClassFile.FieldType.int) 7 163 mc ms) (hY : JY X D dA aK aV (AX K0 sz)) (hl : XLe K0 K) (hc : c ≤ mc) (hs : s ≤ ms) (h : xw0_fewest_B38 Post mc ms x0 s0 s1 K u c s) : JJ X (AX K0 sz) (jj_Q X (va_Qi (fun (r : Int32) (w : XK × XS) => Post r w.1 w.2) (jx_BA D dA K0 sz) (AX K0 sz)) mc ms (AX K0 sz)) 1 (XP D dA (AX K0 sz) K u) c s 38 [(0, .ref x0)] [.int s0, .ref s1] := by
  unfold xw0_fewest_B38 at h
  obtain ⟨k38, h⟩ := h
  refine xp0_7 hX hY k38 dX0_fewest_38 q418 41 rfl (fun u38 e38 => ?_)
  have h := h u38 e38
  refine jj_aload_n hX dX0_fewest_41 0 rfl 42 rfl ?_
  obtain ⟨k42, h⟩ := h
  refine xg0_7 hX hY k42 dX0_fewest_42 q418 45 rfl ?_
  refine jj_if_le hX dX0_fewest_45 52 48 (by decide) rfl (fun c45 => ?_) (fun c45 => ?_)
  · have h := h.1 c45
    refine jj_aload_n hX dX0_fewest_52 0 rfl 53 rfl ?_
    obtain ⟨m53, w53, hc53, hs53, h⟩ := h
    refine kxw0_setter hX hY k42 q875 (Nat.le_of_ble_eq_true rfl) (Nat.le_of_ble_eq_true rfl) hc53 hs53 (Nat.le_of_ble_eq_true rfl) dX0_fewest_53 56 rfl h (fun r53 K53 u53 hle53 h => ?_)
    have k53 := hle53.at k38 (by simp)
    have k53_1 := hle53.at k42 (by simp)
    have hl53 := hl.tr hle53
    refine jj_cs (k2 := (c + m53)) (n2 := (s + w53)) (by simp) (by simp) ?_
    obtain ⟨k56, h⟩ := h
    refine kxw6_fewest hX hY k56 q1199 (Nat.le_of_ble_eq_true rfl) (Nat.le_of_ble_eq_true rfl) hc53 hs53 (Nat.le_of_ble_eq_true rfl) dX0_fewest_56 59 rfl h (fun r56 u56 h => ?_)
    exact jj_reti (post := (fun (r : Int32) (w : XK × XS) => Post r w.1 w.2)) (u := (K53, u56)) hX dX0_fewest_59 hc53 hs53 (jx_hBA hl53) h
  · have h := h.2 c45
    refine jj_iconst hX dX0_fewest_48 ci_m1 49 rfl ?_
    refine jj_goto hX dX0_fewest_49 59 (by decide) ?_
    exact jj_reti (post := (fun (r : Int32) (w : XK × XS) => Post r w.1 w.2)) (u := (K, u38)) hX dX0_fewest_59 hc hs (jx_hBA hl) h
set_option maxHeartbeats 4000000 in
set_option maxRecDepth 100000 in
theorem mxw0_fewest (l : Launch) (hfl : l.stackTraces = false) (D : va_G) (dA aK aV : Nat → Nat) (x0 : Nat) (K : XK) (u : XS) (mc ms : Nat) (Post : Int32 → XK → XS → Prop) (h : xw0_fewest x0 K u mc ms Post) (sz : Nat) : Met l yX0_fewest (ws_ yX0_fewest cX0_fewest 1 (Option.some Jvm.ClassFile.FieldType.int)) (jx_rm 7 163 mc ms) (jx_Pc D dA aK aV K u sz [.ref x0]) (va_Qi (fun (r : Int32) (w : XK × XS) => Post r w.1 w.2) (jx_BA D dA K sz) (AX K sz)) mc ms (AX K sz) := by
  refine jx_start hfl [.ref x0] [(0, .ref x0)] (by decide) (Nat.le_of_ble_eq_true rfl) rfl (fun X hX hY hin => ?_)
  unfold xw0_fewest at h
  refine jj_aload_n hX dX0_fewest_0 0 rfl 1 rfl ?_
  refine jj_aload_n hX dX0_fewest_1 0 rfl 2 rfl ?_
  obtain ⟨k2, h⟩ := h
  refine kxw0_whyNotSet hX hY k2 q1111 (Nat.le_of_ble_eq_true rfl) (Nat.le_of_ble_eq_true rfl) (Nat.zero_le _) (Nat.zero_le _) (Nat.le_of_ble_eq_true rfl) dX0_fewest_2 5 rfl h (fun r2 u2 h => ?_)
  refine xp0_7 hX hY k2 dX0_fewest_5 q418 8 rfl (fun u5 e5 => ?_)
  have h := h u5 e5
  refine jj_aload_n hX dX0_fewest_8 0 rfl 9 rfl ?_
  refine xg0_7 hX hY k2 dX0_fewest_9 q418 12 rfl ?_
  refine jj_if_le hX dX0_fewest_12 17 15 (by decide) rfl (fun c12 => ?_) (fun c12 => ?_)
  · have h := h.1 c12
    refine jj_aload_n hX dX0_fewest_17 0 rfl 18 rfl ?_
    refine jj_aload_n hX dX0_fewest_18 0 rfl 19 rfl ?_
    refine jj_aload_n hX dX0_fewest_19 0 rfl 20 rfl ?_
    refine xg0_10 hX hY k2 dX0_fewest_20 q421 23 rfl ?_
    obtain ⟨b23, g23, h⟩ := h
    refine jj_st (st2 := [.ref b23, .ref x0, .ref x0]) (by rw [va_rf_some g23]) ?_
    obtain ⟨k23, h⟩ := h
    refine xgn4_1 hX hY k23 dX0_fewest_23 nq317 26 rfl ?_
    obtain ⟨m26, w26, hc26, hs26, h⟩ := h
    refine kxw0_setsWithout hX hY k2 q1119 (Nat.le_of_ble_eq_true rfl) (Nat.le_of_ble_eq_true rfl) (by simpa using hc26) (by simpa using hs26) (Nat.le_of_ble_eq_true rfl) dX0_fewest_26 29 rfl h (fun r26 K26 u26 hle26 h => ?_)
    have k26 := hle26.at k2 (by simp)
    have k26_1 := hle26.at k23 (by simp)
    have hl26 := XLe.rf.tr hle26
    refine jj_cs (k2 := m26) (n2 := w26) (by simp) (by simp) ?_
    refine jj_if_ge hX dX0_fewest_29 37 32 (by decide) rfl (fun c29 => ?_) (fun c29 => ?_)
    · have h := h.1 c29
      refine jj_iconst hX dX0_fewest_37 ci_0 38 rfl ?_
      exact txw0_fewest_B38 hX hY hl26 hc26 hs26 h
    · have h := h.2 c29
      refine jj_bipush hX dX0_fewest_32 cb_7 34 rfl ?_
      refine jj_goto hX dX0_fewest_34 38 (by decide) ?_
      exact txw0_fewest_B38 hX hY hl26 hc26 hs26 h
  · have h := h.2 c12
    refine jj_iconst hX dX0_fewest_15 ci_m1 16 rfl ?_
    exact jj_reti (post := (fun (r : Int32) (w : XK × XS) => Post r w.1 w.2)) (u := (K, u5)) hX dX0_fewest_16 (Nat.zero_le _) (Nat.zero_le _) (jx_hBA XLe.rf) h
theorem hd_xw0_fewest : yX0_fewest.cls ≠ "java/lang/invoke/MethodHandle" ∧ yX0_fewest.cls ≠ "java/lang/invoke/VarHandle" ∧ (parseMethodDescriptor yX0_fewest.desc).map (fun d => d.parameters.length) = some 0 := by decide +kernel
theorem kxw0_fewest {X : JC} {A : Nat → Prop} {Q : State → Prop} {nL k n pc : Nat} {lv : List (Nat × Value)} {st : List Value} {own : String} {cc : ByteArray} {ret : Option FieldType} {F LL mc ms ix mc2 ms2 : Nat} {D : va_G} {dA aK aV : Nat → Nat} {K : XK} {u : XS} {x0 : Nat} {Post : Int32 → XK → XS → Prop} (hX : JX X own cc nL ret F LL mc ms) (hY : JY X D dA aK aV A) (h1a : K x0 = (1, 0)) (hlk : (Cond.methodLink own ix yX0_fewest) ∈ lw_all) (hF : 7 + 1 ≤ F) (hL : 8 + (1 + 11) + 163 ≤ LL) (hk : k + mc2 ≤ mc) (hk2 : n + ms2 ≤ ms) (hw : (st.map fun v => v.category).sum ≤ 8) (d : decode cc pc = .ok (.invokevirtual ix, 3)) (q : Nat) (hq : pc + 3 = q) (h : xw0_fewest x0 K u mc2 ms2 Post) (kk : ∀ (r : Int32) (K2 : XK) (u2 : XS), XLe K K2 → Post r K2 u2 → JJ X A Q nL (XP D dA A K2 u2) (k + mc2) (n + ms2) q lv (.int r :: st)) : JJ X A Q nL (XP D dA A K u) k n pc lv (.ref x0 :: st) :=
  jx_callViA (na := 0) (As := []) hX hY jf0 h1a (fun sz => mxw0_fewest (jj_l X) hY.2.2.2.2 D dA aK aV x0 K u mc2 ms2 Post h sz) hlk q1196 q1197 q120 q1198 ⟨rfl, hd_xw0_fewest⟩ rfl rfl hw hF hL hk hk2 d q hq kk
theorem knxw0_fewest {X : JC} {A : Nat → Prop} {Q : State → Prop} {nL k n pc : Nat} {lv : List (Nat × Value)} {st : List Value} {own : String} {cc : ByteArray} {ret : Option FieldType} {F LL mc ms ix mc2 ms2 : Nat} {D : va_G} {dA aK aV : Nat → Nat} {K : XK} {u : XS} {x0 : Nat} {host : String} {Post : Int32 → XK → XS → Prop} (hX : JX X own cc nL ret F LL mc ms) (hY : JY X D dA aK aV A) (h1a : K x0 = (1, 0)) (hlk : (Cond.methodLinkNest own ix yX0_fewest host) ∈ jx_nest) (hF : 7 + 1 ≤ F) (hL : 8 + (1 + 11) + 163 ≤ LL) (hk : k + mc2 ≤ mc) (hk2 : n + ms2 ≤ ms) (hw : (st.map fun v => v.category).sum ≤ 8) (d : decode cc pc = .ok (.invokevirtual ix, 3)) (q : Nat) (hq : pc + 3 = q) (h : xw0_fewest x0 K u mc2 ms2 Post) (kk : ∀ (r : Int32) (K2 : XK) (u2 : XS), XLe K K2 → Post r K2 u2 → JJ X A Q nL (XP D dA A K2 u2) (k + mc2) (n + ms2) q lv (.int r :: st)) : JJ X A Q nL (XP D dA A K u) k n pc lv (.ref x0 :: st) :=
  jx_callNiA (na := 0) (As := []) hX hY jf0 h1a (fun sz => mxw0_fewest (jj_l X) hY.2.2.2.2 D dA aK aV x0 K u mc2 ms2 Post h sz) hlk q1196 q1197 q120 q1198 hd_xw0_fewest rfl rfl hw hF hL hk hk2 d q hq kk
def xw0_saving_B72 (Post : Int32 → XK → XS → Prop) (mc ms : Nat) (x0 : Nat) (x2 : Int32) (x3 : Int32) (s0 : Int32) (s1 : Nat) (K : XK) (u : XS) (c s : Nat) : Prop :=
  K s1 = (1, 0) ∧
  ∀ u72 : XS, u72 = xsi u s1 7 s0 →
  K x0 = (1, 0) ∧
  ((xi u72 x0 7) ≤ 0 →
    Post (x3 - x2) K u72) ∧
  (¬ (xi u72 x0 7) ≤ 0 →
    Post (-1 : Int32) K u72)
def xw0_saving_B17 (Post : Int32 → XK → XS → Prop) (mc ms : Nat) (x0 : Nat) (x1 : Int32) (s0 : Int32) (s1 : Nat) (K : XK) (u : XS) (c s : Nat) : Prop :=
  K s1 = (1, 0) ∧
  ∀ u17 : XS, u17 = xsi u s1 7 s0 →
  K x0 = (1, 0) ∧
  ((xi u17 x0 7) ≤ 0 →
    ∃ b34, (xr u17 x0 10) = some b34 ∧
    K b34 = (1, 4) ∧
    ∃ m37 w37, (c + m37) ≤ mc ∧ (s + w37) ≤ ms ∧ xw0_setsWithout x0 (xi u17 b34 1) K u17 m37 w37 (fun r37 K37 u37 =>
      ∃ b46, (xr u37 x0 10) = some b46 ∧
      K37 b46 = (1, 4) ∧
      ∃ m53 w53, ((c + m37) + m53) ≤ mc ∧ ((s + w37) + w53) ≤ ms ∧ xw0_setsWithout x0 ((xi u37 b46 1) ||| ((1 : Int32) <<< (x1 &&& 31))) K37 u37 m53 w53 (fun r53 K53 u53 =>
        (r37 < 0 →
          xw0_saving_B72 Post mc ms x0 r37 r53 (7 : Int32) x0 K53 u53 ((c + m37) + m53) ((s + w37) + w53)) ∧
        (¬ r37 < 0 →
          (0 ≤ r53 →
            xw0_saving_B72 Post mc ms x0 r37 r53 (0 : Int32) x0 K53 u53 ((c + m37) + m53) ((s + w37) + w53)) ∧
          (¬ 0 ≤ r53 →
            xw0_saving_B72 Post mc ms x0 r37 r53 (7 : Int32) x0 K53 u53 ((c + m37) + m53) ((s + w37) + w53)))))) ∧
  (¬ (xi u17 x0 7) ≤ 0 →
    Post (-1 : Int32) K u17)
/-- RaisedPress.saving(I)I -/
def xw0_saving (x0 : Nat) (x1 : Int32) (K : XK) (u : XS) (mc ms : Nat) (Post : Int32 → XK → XS → Prop) : Prop :=
  K x0 = (1, 0) ∧
  xw0_isRule x0 x1 K u (fun r3 u3 =>
    (¬ r3 = 0 →
      xw0_whyNotSet x0 K u3 (fun r14 u14 =>
        xw0_saving_B17 Post mc ms x0 x1 r14 x0 K u14 0 0)) ∧
    (r3 = 0 →
      xw0_saving_B17 Post mc ms x0 x1 (1 : Int32) x0 K u3 0 0))
set_option maxHeartbeats 4000000 in
set_option maxRecDepth 100000 in
theorem txw0_saving_B72 {X : JC} {D : va_G} {dA aK aV : Nat → Nat} {sz : Nat} {K0 : XK} {mc ms : Nat} {Post : Int32 → XK → XS → Prop} {x0 : Nat} {x2 : Int32} {x3 : Int32} {s0 : Int32} {s1 : Nat} {K : XK} {u : XS} {c s : Nat} (hX : JX X yX0_saving.cls cX0_saving 4 (Option.some Jvm.ClassFile.FieldType.int) 7 163 mc ms) (hY : JY X D dA aK aV (AX K0 sz)) (hl : XLe K0 K) (hc : c ≤ mc) (hs : s ≤ ms) (h : xw0_saving_B72 Post mc ms x0 x2 x3 s0 s1 K u c s) : JJ X (AX K0 sz) (jj_Q X (va_Qi (fun (r : Int32) (w : XK × XS) => Post r w.1 w.2) (jx_BA D dA K0 sz) (AX K0 sz)) mc ms (AX K0 sz)) 4 (XP D dA (AX K0 sz) K u) c s 72 [(0, .ref x0), (2, .int x2), (3, .int x3)] [.int s0, .ref s1] := by
  unfold xw0_saving_B72 at h
  obtain ⟨k72, h⟩ := h
  refine xp0_7 hX hY k72 dX0_saving_72 q418 75 rfl (fun u72 e72 => ?_)
  have h := h u72 e72
  refine jj_aload_n hX dX0_saving_75 0 rfl 76 rfl ?_
  obtain ⟨k76, h⟩ := h
  refine xg0_7 hX hY k76 dX0_saving_76 q418 79 rfl ?_
  refine jj_if_le hX dX0_saving_79 86 82 (by decide) rfl (fun c79 => ?_) (fun c79 => ?_)
  · have h := h.1 c79
    refine jj_iload_n hX dX0_saving_86 2 rfl 87 rfl ?_
    refine jj_iload_n hX dX0_saving_87 1 rfl 88 rfl ?_
    refine jj_isub hX dX0_saving_88 89 rfl ?_
    exact jj_reti (post := (fun (r : Int32) (w : XK × XS) => Post r w.1 w.2)) (u := (K, u72)) hX dX0_saving_89 hc hs (jx_hBA hl) h
  · have h := h.2 c79
    refine jj_iconst hX dX0_saving_82 ci_m1 83 rfl ?_
    refine jj_goto hX dX0_saving_83 89 (by decide) ?_
    exact jj_reti (post := (fun (r : Int32) (w : XK × XS) => Post r w.1 w.2)) (u := (K, u72)) hX dX0_saving_89 hc hs (jx_hBA hl) h
set_option maxHeartbeats 4000000 in
set_option maxRecDepth 100000 in
theorem txw0_saving_B17 {X : JC} {D : va_G} {dA aK aV : Nat → Nat} {sz : Nat} {K0 : XK} {mc ms : Nat} {Post : Int32 → XK → XS → Prop} {x0 : Nat} {x1 : Int32} {s0 : Int32} {s1 : Nat} {K : XK} {u : XS} {c s : Nat} (hX : JX X yX0_saving.cls cX0_saving 4 (Option.some Jvm.ClassFile.FieldType.int) 7 163 mc ms) (hY : JY X D dA aK aV (AX K0 sz)) (hl : XLe K0 K) (hc : c ≤ mc) (hs : s ≤ ms) (h : xw0_saving_B17 Post mc ms x0 x1 s0 s1 K u c s) : JJ X (AX K0 sz) (jj_Q X (va_Qi (fun (r : Int32) (w : XK × XS) => Post r w.1 w.2) (jx_BA D dA K0 sz) (AX K0 sz)) mc ms (AX K0 sz)) 4 (XP D dA (AX K0 sz) K u) c s 17 [(0, .ref x0), (1, .int x1)] [.int s0, .ref s1] := by
  unfold xw0_saving_B17 at h
  obtain ⟨k17, h⟩ := h
  refine xp0_7 hX hY k17 dX0_saving_17 q418 20 rfl (fun u17 e17 => ?_)
  have h := h u17 e17
  refine jj_aload_n hX dX0_saving_20 0 rfl 21 rfl ?_
  obtain ⟨k21, h⟩ := h
  refine xg0_7 hX hY k21 dX0_saving_21 q418 24 rfl ?_
  refine jj_if_le hX dX0_saving_24 29 27 (by decide) rfl (fun c24 => ?_) (fun c24 => ?_)
  · have h := h.1 c24
    refine jj_aload_n hX dX0_saving_29 0 rfl 30 rfl ?_
    refine jj_aload_n hX dX0_saving_30 0 rfl 31 rfl ?_
    refine xg0_10 hX hY k21 dX0_saving_31 q421 34 rfl ?_
    obtain ⟨b34, g34, h⟩ := h
    refine jj_st (st2 := [.ref b34, .ref x0]) (by rw [va_rf_some g34]) ?_
    obtain ⟨k34, h⟩ := h
    refine xgn4_1 hX hY k34 dX0_saving_34 nq317 37 rfl ?_
    obtain ⟨m37, w37, hc37, hs37, h⟩ := h
    refine kxw0_setsWithout hX hY k21 q1119 (Nat.le_of_ble_eq_true rfl) (Nat.le_of_ble_eq_true rfl) hc37 hs37 (Nat.le_of_ble_eq_true rfl) dX0_saving_37 40 rfl h (fun r37 K37 u37 hle37 h => ?_)
    have k37 := hle37.at k17 (by simp)
    have k37_1 := hle37.at k21 (by simp)
    have k37_2 := hle37.at k34 (by simp)
    have hl37 := hl.tr hle37
    refine jj_cs (k2 := (c + m37)) (n2 := (s + w37)) (by simp) (by simp) ?_
    refine jj_istore_n (lv2 := [(0, .ref x0), (1, .int x1), (2, .int r37)]) hX dX0_saving_40 (Nat.le_of_ble_eq_true rfl) [1, 2, 0] rfl 41 rfl ?_
    refine jj_aload_n hX dX0_saving_41 0 rfl 42 rfl ?_
    refine jj_aload_n hX dX0_saving_42 0 rfl 43 rfl ?_
    refine xg0_10 hX hY k37_1 dX0_saving_43 q421 46 rfl ?_
    obtain ⟨b46, g46, h⟩ := h
    refine jj_st (st2 := [.ref b46, .ref x0]) (by rw [va_rf_some g46]) ?_
    obtain ⟨k46, h⟩ := h
    refine xgn4_1 hX hY k46 dX0_saving_46 nq317 49 rfl ?_
    refine jj_iconst hX dX0_saving_49 ci_1 50 rfl ?_
    refine jj_iload_n hX dX0_saving_50 1 rfl 51 rfl ?_
    refine jj_ishl hX dX0_saving_51 52 rfl ?_
    refine jj_ior hX dX0_saving_52 53 rfl ?_
    obtain ⟨m53, w53, hc53, hs53, h⟩ := h
    refine kxw0_setsWithout hX hY k37_1 q1119 (Nat.le_of_ble_eq_true rfl) (Nat.le_of_ble_eq_true rfl) hc53 hs53 (Nat.le_of_ble_eq_true rfl) dX0_saving_53 56 rfl h (fun r53 K53 u53 hle53 h => ?_)
    have k53 := hle53.at k37 (by simp)
    have k53_1 := hle53.at k37_1 (by simp)
    have k53_2 := hle53.at k37_2 (by simp)
    have k53_3 := hle53.at k46 (by simp)
    have hl53 := hl37.tr hle53
    refine jj_cs (k2 := ((c + m37) + m53)) (n2 := ((s + w37) + w53)) (by simp) (by simp) ?_
    refine jj_istore_n (lv2 := [(0, .ref x0), (2, .int r37), (3, .int r53)]) hX dX0_saving_56 (Nat.le_of_ble_eq_true rfl) [1, 3, 0] rfl 57 rfl ?_
    refine jj_aload_n hX dX0_saving_57 0 rfl 58 rfl ?_
    refine jj_iload_n hX dX0_saving_58 1 rfl 59 rfl ?_
    refine jj_if_lt hX dX0_saving_59 66 62 (by decide) rfl (fun c59 => ?_) (fun c59 => ?_)
    · have h := h.1 c59
      refine jj_bipush hX dX0_saving_66 cb_7 68 rfl ?_
      refine jj_goto hX dX0_saving_68 72 (by decide) ?_
      exact txw0_saving_B72 hX hY hl53 hc53 hs53 h
    · have h := h.2 c59
      refine jj_iload_n hX dX0_saving_62 2 rfl 63 rfl ?_
      refine jj_if_ge hX dX0_saving_63 71 66 (by decide) rfl (fun c63 => ?_) (fun c63 => ?_)
      · have h := h.1 c63
        refine jj_iconst hX dX0_saving_71 ci_0 72 rfl ?_
        exact txw0_saving_B72 hX hY hl53 hc53 hs53 h
      · have h := h.2 c63
        refine jj_bipush hX dX0_saving_66 cb_7 68 rfl ?_
        refine jj_goto hX dX0_saving_68 72 (by decide) ?_
        exact txw0_saving_B72 hX hY hl53 hc53 hs53 h
  · have h := h.2 c24
    refine jj_iconst hX dX0_saving_27 ci_m1 28 rfl ?_
    exact jj_reti (post := (fun (r : Int32) (w : XK × XS) => Post r w.1 w.2)) (u := (K, u17)) hX dX0_saving_28 hc hs (jx_hBA hl) h
set_option maxHeartbeats 4000000 in
set_option maxRecDepth 100000 in
theorem mxw0_saving (l : Launch) (hfl : l.stackTraces = false) (D : va_G) (dA aK aV : Nat → Nat) (x0 : Nat) (x1 : Int32) (K : XK) (u : XS) (mc ms : Nat) (Post : Int32 → XK → XS → Prop) (h : xw0_saving x0 x1 K u mc ms Post) (sz : Nat) : Met l yX0_saving (ws_ yX0_saving cX0_saving 4 (Option.some Jvm.ClassFile.FieldType.int)) (jx_rm 7 163 mc ms) (jx_Pc D dA aK aV K u sz [.ref x0, .int x1]) (va_Qi (fun (r : Int32) (w : XK × XS) => Post r w.1 w.2) (jx_BA D dA K sz) (AX K sz)) mc ms (AX K sz) := by
  refine jx_start hfl [.ref x0, .int x1] [(0, .ref x0), (1, .int x1)] (by decide) (Nat.le_of_ble_eq_true rfl) rfl (fun X hX hY hin => ?_)
  unfold xw0_saving at h
  refine jj_aload_n hX dX0_saving_0 0 rfl 1 rfl ?_
  refine jj_aload_n hX dX0_saving_1 0 rfl 2 rfl ?_
  refine jj_iload_n hX dX0_saving_2 1 rfl 3 rfl ?_
  obtain ⟨k3, h⟩ := h
  refine kxw0_isRule hX hY k3 q1085 (Nat.le_of_ble_eq_true rfl) (Nat.le_of_ble_eq_true rfl) (Nat.zero_le _) (Nat.zero_le _) (Nat.le_of_ble_eq_true rfl) dX0_saving_3 6 rfl h (fun r3 u3 hb3 h => ?_)
  refine jj_if_ne hX dX0_saving_6 13 9 (by decide) rfl (fun c6 => ?_) (fun c6 => ?_)
  · have h := h.1 c6
    refine jj_aload_n hX dX0_saving_13 0 rfl 14 rfl ?_
    refine kxw0_whyNotSet hX hY k3 q1111 (Nat.le_of_ble_eq_true rfl) (Nat.le_of_ble_eq_true rfl) (Nat.zero_le _) (Nat.zero_le _) (Nat.le_of_ble_eq_true rfl) dX0_saving_14 17 rfl h (fun r14 u14 h => ?_)
    exact txw0_saving_B17 hX hY XLe.rf (Nat.zero_le _) (Nat.zero_le _) h
  · have h := h.2 c6
    refine jj_iconst hX dX0_saving_9 ci_1 10 rfl ?_
    refine jj_goto hX dX0_saving_10 17 (by decide) ?_
    exact txw0_saving_B17 hX hY XLe.rf (Nat.zero_le _) (Nat.zero_le _) h
theorem hd_xw0_saving : yX0_saving.cls ≠ "java/lang/invoke/MethodHandle" ∧ yX0_saving.cls ≠ "java/lang/invoke/VarHandle" ∧ (parseMethodDescriptor yX0_saving.desc).map (fun d => d.parameters.length) = some 1 := by decide +kernel
theorem kxw0_saving {X : JC} {A : Nat → Prop} {Q : State → Prop} {nL k n pc : Nat} {lv : List (Nat × Value)} {st : List Value} {own : String} {cc : ByteArray} {ret : Option FieldType} {F LL mc ms ix mc2 ms2 : Nat} {D : va_G} {dA aK aV : Nat → Nat} {K : XK} {u : XS} {x0 : Nat} {x1 : Int32} {Post : Int32 → XK → XS → Prop} (hX : JX X own cc nL ret F LL mc ms) (hY : JY X D dA aK aV A) (h1a : K x0 = (1, 0)) (hlk : (Cond.methodLink own ix yX0_saving) ∈ lw_all) (hF : 7 + 1 ≤ F) (hL : 8 + (4 + 11) + 163 ≤ LL) (hk : k + mc2 ≤ mc) (hk2 : n + ms2 ≤ ms) (hw : (st.map fun v => v.category).sum ≤ 8) (d : decode cc pc = .ok (.invokevirtual ix, 3)) (q : Nat) (hq : pc + 3 = q) (h : xw0_saving x0 x1 K u mc2 ms2 Post) (kk : ∀ (r : Int32) (K2 : XK) (u2 : XS), XLe K K2 → Post r K2 u2 → JJ X A Q nL (XP D dA A K2 u2) (k + mc2) (n + ms2) q lv (.int r :: st)) : JJ X A Q nL (XP D dA A K u) k n pc lv (.int x1 :: .ref x0 :: st) :=
  jx_callViA (na := 1) (As := [.int x1]) hX hY jf0 h1a (fun sz => mxw0_saving (jj_l X) hY.2.2.2.2 D dA aK aV x0 x1 K u mc2 ms2 Post h sz) hlk q1212 q1213 q120 q1214 ⟨rfl, hd_xw0_saving⟩ rfl rfl hw hF hL hk hk2 d q hq kk
theorem knxw0_saving {X : JC} {A : Nat → Prop} {Q : State → Prop} {nL k n pc : Nat} {lv : List (Nat × Value)} {st : List Value} {own : String} {cc : ByteArray} {ret : Option FieldType} {F LL mc ms ix mc2 ms2 : Nat} {D : va_G} {dA aK aV : Nat → Nat} {K : XK} {u : XS} {x0 : Nat} {x1 : Int32} {host : String} {Post : Int32 → XK → XS → Prop} (hX : JX X own cc nL ret F LL mc ms) (hY : JY X D dA aK aV A) (h1a : K x0 = (1, 0)) (hlk : (Cond.methodLinkNest own ix yX0_saving host) ∈ jx_nest) (hF : 7 + 1 ≤ F) (hL : 8 + (4 + 11) + 163 ≤ LL) (hk : k + mc2 ≤ mc) (hk2 : n + ms2 ≤ ms) (hw : (st.map fun v => v.category).sum ≤ 8) (d : decode cc pc = .ok (.invokevirtual ix, 3)) (q : Nat) (hq : pc + 3 = q) (h : xw0_saving x0 x1 K u mc2 ms2 Post) (kk : ∀ (r : Int32) (K2 : XK) (u2 : XS), XLe K K2 → Post r K2 u2 → JJ X A Q nL (XP D dA A K2 u2) (k + mc2) (n + ms2) q lv (.int r :: st)) : JJ X A Q nL (XP D dA A K u) k n pc lv (.int x1 :: .ref x0 :: st) :=
  jx_callNiA (na := 1) (As := [.int x1]) hX hY jf0 h1a (fun sz => mxw0_saving (jj_l X) hY.2.2.2.2 D dA aK aV x0 x1 K u mc2 ms2 Post h sz) hlk q1212 q1213 q120 q1214 hd_xw0_saving rfl rfl hw hF hL hk hk2 d q hq kk
def xw0_cheapest_B94 (G56 : Int32 → Int32 → Int32 → XK → XS → Nat → Nat → Prop) (Post : Int32 → XK → XS → Prop) (mc ms : Nat) (x0 : Nat) (x1 : Int32) (x2 : Int32) (x3 : Int32) (s0 : Int32) (K : XK) (u : XS) (c s : Nat) : Prop :=
  (s0 < 0 →
    ∀ v119 : Int32, v119 = x3 + (1 : Int32) →
    G56 x1 x2 v119 K u c s) ∧
  (¬ s0 < 0 →
    (x1 < 0 →
      ∀ v119 : Int32, v119 = x3 + (1 : Int32) →
      G56 x3 s0 v119 K u c s) ∧
    (¬ x1 < 0 →
      (s0 < x2 →
        ∀ v119 : Int32, v119 = x3 + (1 : Int32) →
        G56 x3 s0 v119 K u c s) ∧
      (¬ s0 < x2 →
        ∀ v119 : Int32, v119 = x3 + (1 : Int32) →
        G56 x1 x2 v119 K u c s)))
def xw0_cheapest_L56_S (Post : Int32 → XK → XS → Prop) (mc ms : Nat) (x0 : Nat) (R : Int32 → Int32 → Int32 → XK → XS → Nat → Nat → Prop) (x1 : Int32) (x2 : Int32) (x3 : Int32) (K : XK) (u : XS) (c s : Nat) : Prop :=
  K x0 = (1, 0) ∧
  xw0_table x0 K u (fun r58 u58 =>
    K r58 = (1, 5) ∧
    ((xi u58 r58 1) ≤ x3 →
      xw0_answer x0 x1 K u58 (fun r127 u127 =>
        Post r127 K u127)) ∧
    (¬ (xi u58 r58 1) ≤ x3 →
      xw0_isThere x0 x3 K u58 (fun r69 u69 =>
        (r69 = 0 →
          xw0_cheapest_B94 R Post mc ms x0 x1 x2 x3 (-1 : Int32) K u69 c s) ∧
        (¬ r69 = 0 →
          ∃ b80, (xr u69 x0 10) = some b80 ∧
          K b80 = (1, 4) ∧
          ∃ m87 w87, (c + m87) ≤ mc ∧ (s + w87) ≤ ms ∧ xw0_setsWithout x0 ((xi u69 b80 1) ||| ((1 : Int32) <<< (x3 &&& 31))) K u69 m87 w87 (fun r87 K87 u87 =>
            xw0_cheapest_B94 R Post mc ms x0 x1 x2 x3 r87 K87 u87 (c + m87) (s + w87))))))
def xw0_cheapest_L56 (Post : Int32 → XK → XS → Prop) (mc ms : Nat) (x0 : Nat) : Nat → Int32 → Int32 → Int32 → XK → XS → Nat → Nat → Prop
  | 0 => fun _ _ _ _ _ _ _ => False
  | n + 1 => fun x1 x2 x3 K u c s => xw0_cheapest_L56_S Post mc ms x0 (xw0_cheapest_L56 Post mc ms x0 n) x1 x2 x3 K u c s
def xw0_cheapest_B38 (Post : Int32 → XK → XS → Prop) (mc ms : Nat) (x0 : Nat) (s0 : Int32) (s1 : Nat) (K : XK) (u : XS) (c s : Nat) : Prop :=
  K s1 = (1, 0) ∧
  ∀ u38 : XS, u38 = xsi u s1 7 s0 →
  K x0 = (1, 0) ∧
  ((xi u38 x0 7) ≤ 0 →
    ∃ n, xw0_cheapest_L56 Post mc ms x0 n (-1 : Int32) (0 : Int32) (0 : Int32) K u38 c s) ∧
  (¬ (xi u38 x0 7) ≤ 0 →
    Post (-1 : Int32) K u38)
/-- RaisedPress.cheapest()I -/
def xw0_cheapest (x0 : Nat) (K : XK) (u : XS) (mc ms : Nat) (Post : Int32 → XK → XS → Prop) : Prop :=
  K x0 = (1, 0) ∧
  xw0_whyNotSet x0 K u (fun r2 u2 =>
    ∀ u5 : XS, u5 = xsi u2 x0 7 r2 →
    ((xi u5 x0 7) ≤ 0 →
      ∃ b23, (xr u5 x0 10) = some b23 ∧
      K b23 = (1, 4) ∧
      ∃ m26 w26, m26 ≤ mc ∧ w26 ≤ ms ∧ xw0_setsWithout x0 (xi u5 b23 1) K u5 m26 w26 (fun r26 K26 u26 =>
        (0 ≤ r26 →
          xw0_cheapest_B38 Post mc ms x0 (0 : Int32) x0 K26 u26 m26 w26) ∧
        (¬ 0 ≤ r26 →
          xw0_cheapest_B38 Post mc ms x0 (7 : Int32) x0 K26 u26 m26 w26))) ∧
    (¬ (xi u5 x0 7) ≤ 0 →
      Post (-1 : Int32) K u5))
set_option maxHeartbeats 4000000 in
set_option maxRecDepth 100000 in
theorem txw0_cheapest_B94 {X : JC} {D : va_G} {dA aK aV : Nat → Nat} {sz : Nat} {K0 : XK} {mc ms : Nat} {G56 : Int32 → Int32 → Int32 → XK → XS → Nat → Nat → Prop} {Post : Int32 → XK → XS → Prop} {x0 : Nat} {x1 : Int32} {x2 : Int32} {x3 : Int32} {s0 : Int32} {K : XK} {u : XS} {c s : Nat} (hX : JX X yX0_cheapest.cls cX0_cheapest 5 (Option.some Jvm.ClassFile.FieldType.int) 7 163 mc ms) (hY : JY X D dA aK aV (AX K0 sz)) (hG56 : ∀ (y1 : Int32) (y2 : Int32) (y3 : Int32) (K : XK) (u : XS) (c s : Nat) (hl : XLe K0 K) (hc : c ≤ mc) (hs : s ≤ ms), G56 y1 y2 y3 K u c s → JJ X (AX K0 sz) (jj_Q X (va_Qi (fun (r : Int32) (w : XK × XS) => Post r w.1 w.2) (jx_BA D dA K0 sz) (AX K0 sz)) mc ms (AX K0 sz)) 5 (XP D dA (AX K0 sz) K u) c s 56 [(0, .ref x0), (1, .int y1), (2, .int y2), (3, .int y3)] []) (hl : XLe K0 K) (hc : c ≤ mc) (hs : s ≤ ms) (h : xw0_cheapest_B94 G56 Post mc ms x0 x1 x2 x3 s0 K u c s) : JJ X (AX K0 sz) (jj_Q X (va_Qi (fun (r : Int32) (w : XK × XS) => Post r w.1 w.2) (jx_BA D dA K0 sz) (AX K0 sz)) mc ms (AX K0 sz)) 5 (XP D dA (AX K0 sz) K u) c s 94 [(0, .ref x0), (1, .int x1), (2, .int x2), (3, .int x3)] [.int s0] := by
  unfold xw0_cheapest_B94 at h
  refine jj_istore (lv2 := [(0, .ref x0), (1, .int x1), (2, .int x2), (3, .int x3), (4, .int s0)]) hX dX0_cheapest_94 (Nat.le_of_ble_eq_true rfl) [1, 2, 3, 4, 0] rfl 96 rfl ?_
  refine jj_iload hX dX0_cheapest_96 4 rfl 98 rfl ?_
  refine jj_if_lt hX dX0_cheapest_98 119 101 (by decide) rfl (fun c98 => ?_) (fun c98 => ?_)
  · have h := h.1 c98
    obtain ⟨v119, e119⟩ : ∃ y : Int32, y = x3 + (1 : Int32) := ⟨_, rfl⟩
    have h := h v119 e119
    refine jj_iinc (v := v119) (lv2 := [(0, .ref x0), (1, .int x1), (2, .int x2), (3, .int v119), (4, .int s0)]) hX dX0_cheapest_119 3 rfl (by rw [e119, ci_1]) (Nat.le_of_ble_eq_true rfl) [1, 2, 3, 0, 4] rfl 122 rfl ?_
    refine jj_goto hX dX0_cheapest_122 56 (by decide) ?_
    refine jj_sub (lv2 := [(0, .ref x0), (1, .int x1), (2, .int x2), (3, .int v119)]) [0, 1, 2, 3] rfl ?_
    exact hG56 _ _ _ _ _ _ _ hl hc hs h
  · have h := h.2 c98
    refine jj_iload_n hX dX0_cheapest_101 1 rfl 102 rfl ?_
    refine jj_if_lt hX dX0_cheapest_102 114 105 (by decide) rfl (fun c102 => ?_) (fun c102 => ?_)
    · have h := h.1 c102
      refine jj_iload_n hX dX0_cheapest_114 3 rfl 115 rfl ?_
      refine jj_istore_n (lv2 := [(0, .ref x0), (1, .int x3), (3, .int x3), (4, .int s0)]) hX dX0_cheapest_115 (Nat.le_of_ble_eq_true rfl) [1, 0, 3, 4] rfl 116 rfl ?_
      refine jj_iload hX dX0_cheapest_116 3 rfl 118 rfl ?_
      refine jj_istore_n (lv2 := [(0, .ref x0), (1, .int x3), (2, .int s0), (3, .int x3)]) hX dX0_cheapest_118 (Nat.le_of_ble_eq_true rfl) [1, 2, 0, 3] rfl 119 rfl ?_
      obtain ⟨v119, e119⟩ : ∃ y : Int32, y = x3 + (1 : Int32) := ⟨_, rfl⟩
      have h := h v119 e119
      refine jj_iinc (v := v119) (lv2 := [(0, .ref x0), (1, .int x3), (2, .int s0), (3, .int v119)]) hX dX0_cheapest_119 3 rfl (by rw [e119, ci_1]) (Nat.le_of_ble_eq_true rfl) [1, 2, 3, 0] rfl 122 rfl ?_
      refine jj_goto hX dX0_cheapest_122 56 (by decide) ?_
      exact hG56 _ _ _ _ _ _ _ hl hc hs h
    · have h := h.2 c102
      refine jj_iload hX dX0_cheapest_105 4 rfl 107 rfl ?_
      refine jj_iload_n hX dX0_cheapest_107 2 rfl 108 rfl ?_
      refine jj_icmp_lt hX dX0_cheapest_108 114 111 (by decide) rfl (fun c108 => ?_) (fun c108 => ?_)
      · have h := h.1 c108
        refine jj_iload_n hX dX0_cheapest_114 3 rfl 115 rfl ?_
        refine jj_istore_n (lv2 := [(0, .ref x0), (1, .int x3), (3, .int x3), (4, .int s0)]) hX dX0_cheapest_115 (Nat.le_of_ble_eq_true rfl) [1, 0, 3, 4] rfl 116 rfl ?_
        refine jj_iload hX dX0_cheapest_116 3 rfl 118 rfl ?_
        refine jj_istore_n (lv2 := [(0, .ref x0), (1, .int x3), (2, .int s0), (3, .int x3)]) hX dX0_cheapest_118 (Nat.le_of_ble_eq_true rfl) [1, 2, 0, 3] rfl 119 rfl ?_
        obtain ⟨v119, e119⟩ : ∃ y : Int32, y = x3 + (1 : Int32) := ⟨_, rfl⟩
        have h := h v119 e119
        refine jj_iinc (v := v119) (lv2 := [(0, .ref x0), (1, .int x3), (2, .int s0), (3, .int v119)]) hX dX0_cheapest_119 3 rfl (by rw [e119, ci_1]) (Nat.le_of_ble_eq_true rfl) [1, 2, 3, 0] rfl 122 rfl ?_
        refine jj_goto hX dX0_cheapest_122 56 (by decide) ?_
        exact hG56 _ _ _ _ _ _ _ hl hc hs h
      · have h := h.2 c108
        refine jj_goto hX dX0_cheapest_111 119 (by decide) ?_
        obtain ⟨v119, e119⟩ : ∃ y : Int32, y = x3 + (1 : Int32) := ⟨_, rfl⟩
        have h := h v119 e119
        refine jj_iinc (v := v119) (lv2 := [(0, .ref x0), (1, .int x1), (2, .int x2), (3, .int v119), (4, .int s0)]) hX dX0_cheapest_119 3 rfl (by rw [e119, ci_1]) (Nat.le_of_ble_eq_true rfl) [1, 2, 3, 0, 4] rfl 122 rfl ?_
        refine jj_goto hX dX0_cheapest_122 56 (by decide) ?_
        refine jj_sub (lv2 := [(0, .ref x0), (1, .int x1), (2, .int x2), (3, .int v119)]) [0, 1, 2, 3] rfl ?_
        exact hG56 _ _ _ _ _ _ _ hl hc hs h
set_option maxHeartbeats 4000000 in
set_option maxRecDepth 100000 in
theorem txw0_cheapest_L56 {X : JC} {D : va_G} {dA aK aV : Nat → Nat} {sz : Nat} {K0 : XK} {mc ms : Nat} {Post : Int32 → XK → XS → Prop} {x0 : Nat} (hX : JX X yX0_cheapest.cls cX0_cheapest 5 (Option.some Jvm.ClassFile.FieldType.int) 7 163 mc ms) (hY : JY X D dA aK aV (AX K0 sz)) : ∀ (n : Nat) (x1 : Int32) (x2 : Int32) (x3 : Int32) (K : XK) (u : XS) (c s : Nat) (hl : XLe K0 K) (hc : c ≤ mc) (hs : s ≤ ms), xw0_cheapest_L56 Post mc ms x0 n x1 x2 x3 K u c s → JJ X (AX K0 sz) (jj_Q X (va_Qi (fun (r : Int32) (w : XK × XS) => Post r w.1 w.2) (jx_BA D dA K0 sz) (AX K0 sz)) mc ms (AX K0 sz)) 5 (XP D dA (AX K0 sz) K u) c s 56 [(0, .ref x0), (1, .int x1), (2, .int x2), (3, .int x3)] [] := by
  intro n
  induction n with
  | zero =>
    intro x1 x2 x3 K u c s hl hc hs h
    exact h.elim
  | succ n ih =>
    intro x1 x2 x3 K u c s hl hc hs h
    have h : xw0_cheapest_L56_S Post mc ms x0 (xw0_cheapest_L56 Post mc ms x0 n) x1 x2 x3 K u c s := h
    unfold xw0_cheapest_L56_S at h
    refine jj_iload_n hX dX0_cheapest_56 3 rfl 57 rfl ?_
    refine jj_aload_n hX dX0_cheapest_57 0 rfl 58 rfl ?_
    obtain ⟨k58, h⟩ := h
    refine kxw0_table hX hY k58 q879 (Nat.le_of_ble_eq_true rfl) (Nat.le_of_ble_eq_true rfl) hc hs (Nat.le_of_ble_eq_true rfl) dX0_cheapest_58 61 rfl h (fun r58 u58 h => ?_)
    obtain ⟨k61, h⟩ := h
    refine xgn5_1 hX hY k61 dX0_cheapest_61 nq279 64 rfl ?_
    refine jj_icmp_ge hX dX0_cheapest_64 125 67 (by decide) rfl (fun c64 => ?_) (fun c64 => ?_)
    · have h := h.1 c64
      refine jj_aload_n hX dX0_cheapest_125 0 rfl 126 rfl ?_
      refine jj_iload_n hX dX0_cheapest_126 1 rfl 127 rfl ?_
      refine kxw0_answer hX hY k58 q1077 (Nat.le_of_ble_eq_true rfl) (Nat.le_of_ble_eq_true rfl) hc hs (Nat.le_of_ble_eq_true rfl) dX0_cheapest_127 130 rfl h (fun r127 u127 h => ?_)
      exact jj_reti (post := (fun (r : Int32) (w : XK × XS) => Post r w.1 w.2)) (u := (K, u127)) hX dX0_cheapest_130 hc hs (jx_hBA hl) h
    · have h := h.2 c64
      refine jj_aload_n hX dX0_cheapest_67 0 rfl 68 rfl ?_
      refine jj_iload_n hX dX0_cheapest_68 3 rfl 69 rfl ?_
      refine kxw0_isThere hX hY k58 q1173 (Nat.le_of_ble_eq_true rfl) (Nat.le_of_ble_eq_true rfl) hc hs (Nat.le_of_ble_eq_true rfl) dX0_cheapest_69 72 rfl h (fun r69 u69 hb69 h => ?_)
      refine jj_if_eq hX dX0_cheapest_72 93 75 (by decide) rfl (fun c72 => ?_) (fun c72 => ?_)
      · have h := h.1 c72
        refine jj_iconst hX dX0_cheapest_93 ci_m1 94 rfl ?_
        exact txw0_cheapest_B94 hX hY ih hl hc hs h
      · have h := h.2 c72
        refine jj_aload_n hX dX0_cheapest_75 0 rfl 76 rfl ?_
        refine jj_aload_n hX dX0_cheapest_76 0 rfl 77 rfl ?_
        refine xg0_10 hX hY k58 dX0_cheapest_77 q421 80 rfl ?_
        obtain ⟨b80, g80, h⟩ := h
        refine jj_st (st2 := [.ref b80, .ref x0]) (by rw [va_rf_some g80]) ?_
        obtain ⟨k80, h⟩ := h
        refine xgn4_1 hX hY k80 dX0_cheapest_80 nq317 83 rfl ?_
        refine jj_iconst hX dX0_cheapest_83 ci_1 84 rfl ?_
        refine jj_iload_n hX dX0_cheapest_84 3 rfl 85 rfl ?_
        refine jj_ishl hX dX0_cheapest_85 86 rfl ?_
        refine jj_ior hX dX0_cheapest_86 87 rfl ?_
        obtain ⟨m87, w87, hc87, hs87, h⟩ := h
        refine kxw0_setsWithout hX hY k58 q1119 (Nat.le_of_ble_eq_true rfl) (Nat.le_of_ble_eq_true rfl) hc87 hs87 (Nat.le_of_ble_eq_true rfl) dX0_cheapest_87 90 rfl h (fun r87 K87 u87 hle87 h => ?_)
        have k87 := hle87.at k58 (by simp)
        have k87_1 := hle87.at k61 (by simp)
        have k87_2 := hle87.at k80 (by simp)
        have hl87 := hl.tr hle87
        refine jj_cs (k2 := (c + m87)) (n2 := (s + w87)) (by simp) (by simp) ?_
        refine jj_goto hX dX0_cheapest_90 94 (by decide) ?_
        exact txw0_cheapest_B94 hX hY ih hl87 hc87 hs87 h
set_option maxHeartbeats 4000000 in
set_option maxRecDepth 100000 in
theorem txw0_cheapest_B38 {X : JC} {D : va_G} {dA aK aV : Nat → Nat} {sz : Nat} {K0 : XK} {mc ms : Nat} {Post : Int32 → XK → XS → Prop} {x0 : Nat} {s0 : Int32} {s1 : Nat} {K : XK} {u : XS} {c s : Nat} (hX : JX X yX0_cheapest.cls cX0_cheapest 5 (Option.some Jvm.ClassFile.FieldType.int) 7 163 mc ms) (hY : JY X D dA aK aV (AX K0 sz)) (hl : XLe K0 K) (hc : c ≤ mc) (hs : s ≤ ms) (h : xw0_cheapest_B38 Post mc ms x0 s0 s1 K u c s) : JJ X (AX K0 sz) (jj_Q X (va_Qi (fun (r : Int32) (w : XK × XS) => Post r w.1 w.2) (jx_BA D dA K0 sz) (AX K0 sz)) mc ms (AX K0 sz)) 5 (XP D dA (AX K0 sz) K u) c s 38 [(0, .ref x0)] [.int s0, .ref s1] := by
  unfold xw0_cheapest_B38 at h
  obtain ⟨k38, h⟩ := h
  refine xp0_7 hX hY k38 dX0_cheapest_38 q418 41 rfl (fun u38 e38 => ?_)
  have h := h u38 e38
  refine jj_aload_n hX dX0_cheapest_41 0 rfl 42 rfl ?_
  obtain ⟨k42, h⟩ := h
  refine xg0_7 hX hY k42 dX0_cheapest_42 q418 45 rfl ?_
  refine jj_if_le hX dX0_cheapest_45 50 48 (by decide) rfl (fun c45 => ?_) (fun c45 => ?_)
  · have h := h.1 c45
    refine jj_iconst hX dX0_cheapest_50 ci_m1 51 rfl ?_
    refine jj_istore_n (lv2 := [(0, .ref x0), (1, .int (-1 : Int32))]) hX dX0_cheapest_51 (Nat.le_of_ble_eq_true rfl) [1, 0] rfl 52 rfl ?_
    refine jj_iconst hX dX0_cheapest_52 ci_0 53 rfl ?_
    refine jj_istore_n (lv2 := [(0, .ref x0), (1, .int (-1 : Int32)), (2, .int (0 : Int32))]) hX dX0_cheapest_53 (Nat.le_of_ble_eq_true rfl) [1, 2, 0] rfl 54 rfl ?_
    refine jj_iconst hX dX0_cheapest_54 ci_0 55 rfl ?_
    refine jj_istore_n (lv2 := [(0, .ref x0), (1, .int (-1 : Int32)), (2, .int (0 : Int32)), (3, .int (0 : Int32))]) hX dX0_cheapest_55 (Nat.le_of_ble_eq_true rfl) [1, 2, 3, 0] rfl 56 rfl ?_
    obtain ⟨n9, h⟩ := h
    exact txw0_cheapest_L56 hX hY n9 _ _ _ _ _ _ _ hl hc hs h
  · have h := h.2 c45
    refine jj_iconst hX dX0_cheapest_48 ci_m1 49 rfl ?_
    exact jj_reti (post := (fun (r : Int32) (w : XK × XS) => Post r w.1 w.2)) (u := (K, u38)) hX dX0_cheapest_49 hc hs (jx_hBA hl) h
set_option maxHeartbeats 4000000 in
set_option maxRecDepth 100000 in
theorem mxw0_cheapest (l : Launch) (hfl : l.stackTraces = false) (D : va_G) (dA aK aV : Nat → Nat) (x0 : Nat) (K : XK) (u : XS) (mc ms : Nat) (Post : Int32 → XK → XS → Prop) (h : xw0_cheapest x0 K u mc ms Post) (sz : Nat) : Met l yX0_cheapest (ws_ yX0_cheapest cX0_cheapest 5 (Option.some Jvm.ClassFile.FieldType.int)) (jx_rm 7 163 mc ms) (jx_Pc D dA aK aV K u sz [.ref x0]) (va_Qi (fun (r : Int32) (w : XK × XS) => Post r w.1 w.2) (jx_BA D dA K sz) (AX K sz)) mc ms (AX K sz) := by
  refine jx_start hfl [.ref x0] [(0, .ref x0)] (by decide) (Nat.le_of_ble_eq_true rfl) rfl (fun X hX hY hin => ?_)
  unfold xw0_cheapest at h
  refine jj_aload_n hX dX0_cheapest_0 0 rfl 1 rfl ?_
  refine jj_aload_n hX dX0_cheapest_1 0 rfl 2 rfl ?_
  obtain ⟨k2, h⟩ := h
  refine kxw0_whyNotSet hX hY k2 q1111 (Nat.le_of_ble_eq_true rfl) (Nat.le_of_ble_eq_true rfl) (Nat.zero_le _) (Nat.zero_le _) (Nat.le_of_ble_eq_true rfl) dX0_cheapest_2 5 rfl h (fun r2 u2 h => ?_)
  refine xp0_7 hX hY k2 dX0_cheapest_5 q418 8 rfl (fun u5 e5 => ?_)
  have h := h u5 e5
  refine jj_aload_n hX dX0_cheapest_8 0 rfl 9 rfl ?_
  refine xg0_7 hX hY k2 dX0_cheapest_9 q418 12 rfl ?_
  refine jj_if_le hX dX0_cheapest_12 17 15 (by decide) rfl (fun c12 => ?_) (fun c12 => ?_)
  · have h := h.1 c12
    refine jj_aload_n hX dX0_cheapest_17 0 rfl 18 rfl ?_
    refine jj_aload_n hX dX0_cheapest_18 0 rfl 19 rfl ?_
    refine jj_aload_n hX dX0_cheapest_19 0 rfl 20 rfl ?_
    refine xg0_10 hX hY k2 dX0_cheapest_20 q421 23 rfl ?_
    obtain ⟨b23, g23, h⟩ := h
    refine jj_st (st2 := [.ref b23, .ref x0, .ref x0]) (by rw [va_rf_some g23]) ?_
    obtain ⟨k23, h⟩ := h
    refine xgn4_1 hX hY k23 dX0_cheapest_23 nq317 26 rfl ?_
    obtain ⟨m26, w26, hc26, hs26, h⟩ := h
    refine kxw0_setsWithout hX hY k2 q1119 (Nat.le_of_ble_eq_true rfl) (Nat.le_of_ble_eq_true rfl) (by simpa using hc26) (by simpa using hs26) (Nat.le_of_ble_eq_true rfl) dX0_cheapest_26 29 rfl h (fun r26 K26 u26 hle26 h => ?_)
    have k26 := hle26.at k2 (by simp)
    have k26_1 := hle26.at k23 (by simp)
    have hl26 := XLe.rf.tr hle26
    refine jj_cs (k2 := m26) (n2 := w26) (by simp) (by simp) ?_
    refine jj_if_ge hX dX0_cheapest_29 37 32 (by decide) rfl (fun c29 => ?_) (fun c29 => ?_)
    · have h := h.1 c29
      refine jj_iconst hX dX0_cheapest_37 ci_0 38 rfl ?_
      exact txw0_cheapest_B38 hX hY hl26 hc26 hs26 h
    · have h := h.2 c29
      refine jj_bipush hX dX0_cheapest_32 cb_7 34 rfl ?_
      refine jj_goto hX dX0_cheapest_34 38 (by decide) ?_
      exact txw0_cheapest_B38 hX hY hl26 hc26 hs26 h
  · have h := h.2 c12
    refine jj_iconst hX dX0_cheapest_15 ci_m1 16 rfl ?_
    exact jj_reti (post := (fun (r : Int32) (w : XK × XS) => Post r w.1 w.2)) (u := (K, u5)) hX dX0_cheapest_16 (Nat.zero_le _) (Nat.zero_le _) (jx_hBA XLe.rf) h
theorem hd_xw0_cheapest : yX0_cheapest.cls ≠ "java/lang/invoke/MethodHandle" ∧ yX0_cheapest.cls ≠ "java/lang/invoke/VarHandle" ∧ (parseMethodDescriptor yX0_cheapest.desc).map (fun d => d.parameters.length) = some 0 := by decide +kernel
theorem kxw0_cheapest {X : JC} {A : Nat → Prop} {Q : State → Prop} {nL k n pc : Nat} {lv : List (Nat × Value)} {st : List Value} {own : String} {cc : ByteArray} {ret : Option FieldType} {F LL mc ms ix mc2 ms2 : Nat} {D : va_G} {dA aK aV : Nat → Nat} {K : XK} {u : XS} {x0 : Nat} {Post : Int32 → XK → XS → Prop} (hX : JX X own cc nL ret F LL mc ms) (hY : JY X D dA aK aV A) (h1a : K x0 = (1, 0)) (hlk : (Cond.methodLink own ix yX0_cheapest) ∈ lw_all) (hF : 7 + 1 ≤ F) (hL : 8 + (5 + 11) + 163 ≤ LL) (hk : k + mc2 ≤ mc) (hk2 : n + ms2 ≤ ms) (hw : (st.map fun v => v.category).sum ≤ 8) (d : decode cc pc = .ok (.invokevirtual ix, 3)) (q : Nat) (hq : pc + 3 = q) (h : xw0_cheapest x0 K u mc2 ms2 Post) (kk : ∀ (r : Int32) (K2 : XK) (u2 : XS), XLe K K2 → Post r K2 u2 → JJ X A Q nL (XP D dA A K2 u2) (k + mc2) (n + ms2) q lv (.int r :: st)) : JJ X A Q nL (XP D dA A K u) k n pc lv (.ref x0 :: st) :=
  jx_callViA (na := 0) (As := []) hX hY jf0 h1a (fun sz => mxw0_cheapest (jj_l X) hY.2.2.2.2 D dA aK aV x0 K u mc2 ms2 Post h sz) hlk q1216 q1217 q120 q1218 ⟨rfl, hd_xw0_cheapest⟩ rfl rfl hw hF hL hk hk2 d q hq kk
theorem knxw0_cheapest {X : JC} {A : Nat → Prop} {Q : State → Prop} {nL k n pc : Nat} {lv : List (Nat × Value)} {st : List Value} {own : String} {cc : ByteArray} {ret : Option FieldType} {F LL mc ms ix mc2 ms2 : Nat} {D : va_G} {dA aK aV : Nat → Nat} {K : XK} {u : XS} {x0 : Nat} {host : String} {Post : Int32 → XK → XS → Prop} (hX : JX X own cc nL ret F LL mc ms) (hY : JY X D dA aK aV A) (h1a : K x0 = (1, 0)) (hlk : (Cond.methodLinkNest own ix yX0_cheapest host) ∈ jx_nest) (hF : 7 + 1 ≤ F) (hL : 8 + (5 + 11) + 163 ≤ LL) (hk : k + mc2 ≤ mc) (hk2 : n + ms2 ≤ ms) (hw : (st.map fun v => v.category).sum ≤ 8) (d : decode cc pc = .ok (.invokevirtual ix, 3)) (q : Nat) (hq : pc + 3 = q) (h : xw0_cheapest x0 K u mc2 ms2 Post) (kk : ∀ (r : Int32) (K2 : XK) (u2 : XS), XLe K K2 → Post r K2 u2 → JJ X A Q nL (XP D dA A K2 u2) (k + mc2) (n + ms2) q lv (.int r :: st)) : JJ X A Q nL (XP D dA A K u) k n pc lv (.ref x0 :: st) :=
  jx_callNiA (na := 0) (As := []) hX hY jf0 h1a (fun sz => mxw0_cheapest (jj_l X) hY.2.2.2.2 D dA aK aV x0 K u mc2 ms2 Post h sz) hlk q1216 q1217 q120 q1218 hd_xw0_cheapest rfl rfl hw hF hL hk hk2 d q hq kk
def xw0_piece_B51 (Post : Int32 → XS → Prop) (K : XK) (x0 : Nat) (x1 : Int32) (x2 : Int32) (s0 : Int32) (s1 : Nat) (u : XS) : Prop :=
  K s1 = (1, 0) ∧
  ∀ u51 : XS, u51 = xsi u s1 7 s0 →
  K x0 = (1, 0) ∧
  ((xi u51 x0 7) ≤ 0 →
    (¬ x2 = 0 →
      ∃ b88, (xr u51 x0 10) = some b88 ∧
      K b88 = (1, 4) ∧
      ∃ b91, (xr u51 b88 2) = some b91 ∧
      K b91 = (1, 15) ∧
      ∃ b95, (xr u51 b91 4) = some b95 ∧
      ∃ n95, K b95 = (2, n95) ∧
      vp_in x1 n95 ∧
      Post (xi u51 b95 x1.toNatClampNeg) u51) ∧
    (x2 = 0 →
      ∃ b73, (xr u51 x0 10) = some b73 ∧
      K b73 = (1, 4) ∧
      ∃ b76, (xr u51 b73 2) = some b76 ∧
      K b76 = (1, 15) ∧
      ∃ b80, (xr u51 b76 3) = some b80 ∧
      ∃ n80, K b80 = (2, n80) ∧
      vp_in x1 n80 ∧
      Post (xi u51 b80 x1.toNatClampNeg) u51)) ∧
  (¬ (xi u51 x0 7) ≤ 0 →
    Post (-1 : Int32) u51)
/-- RaisedPress.piece(II)I -/
def xw0_piece (x0 : Nat) (x1 : Int32) (x2 : Int32) (K : XK) (u : XS) (Post : Int32 → XS → Prop) : Prop :=
  xs_isIn x2.toInt64 (0 : Int64) (1 : Int64) (fun r5 =>
    (¬ r5 = 0 →
      K x0 = (1, 0) ∧
      xw0_isSet x0 K u (fun r16 u16 =>
        (r16 = 0 →
          xw0_piece_B51 Post K x0 x1 x2 (6 : Int32) x0 u16) ∧
        (¬ r16 = 0 →
          ∃ b29, (xr u16 x0 10) = some b29 ∧
          K b29 = (1, 4) ∧
          ∃ b32, (xr u16 b29 2) = some b32 ∧
          K b32 = (1, 15) ∧
          ∃ b35, (xr u16 b32 2) = some b35 ∧
          ∃ n35, K b35 = (2, n35) ∧
          xs_isIn x1.toInt64 (0 : Int64) ((nI n35) - (1 : Int32)).toInt64 (fun r39 =>
            (r39 = 0 →
              xw0_piece_B51 Post K x0 x1 x2 (6 : Int32) x0 u16) ∧
            (¬ r39 = 0 →
              xw0_piece_B51 Post K x0 x1 x2 (0 : Int32) x0 u16))))) ∧
    (r5 = 0 →
      xw0_piece_B51 Post K x0 x1 x2 (1 : Int32) x0 u))
set_option maxHeartbeats 4000000 in
set_option maxRecDepth 100000 in
theorem txw0_piece_B51 {X : JC} {D : va_G} {dA aK aV : Nat → Nat} {sz : Nat} {K : XK} {Post : Int32 → XS → Prop} {x0 : Nat} {x1 : Int32} {x2 : Int32} {s0 : Int32} {s1 : Nat} {u : XS} (hX : JX X yX0_piece.cls cX0_piece 3 (Option.some Jvm.ClassFile.FieldType.int) 1 25 0 0) (hY : JY X D dA aK aV (AX K sz)) (h : xw0_piece_B51 Post K x0 x1 x2 s0 s1 u) : JJ X (AX K sz) (jj_Q X (va_Qi (fun (r : Int32) (w : XS) => Post r w) (jx_B D dA K) (AX K sz)) 0 0 (AX K sz)) 3 (XP D dA (AX K sz) K u) 0 0 51 [(0, .ref x0), (1, .int x1), (2, .int x2)] [.int s0, .ref s1] := by
  unfold xw0_piece_B51 at h
  obtain ⟨k51, h⟩ := h
  refine xp0_7 hX hY k51 dX0_piece_51 q418 54 rfl (fun u51 e51 => ?_)
  have h := h u51 e51
  refine jj_aload_n hX dX0_piece_54 0 rfl 55 rfl ?_
  obtain ⟨k55, h⟩ := h
  refine xg0_7 hX hY k55 dX0_piece_55 q418 58 rfl ?_
  refine jj_if_le hX dX0_piece_58 65 61 (by decide) rfl (fun c58 => ?_) (fun c58 => ?_)
  · have h := h.1 c58
    refine jj_iload_n hX dX0_piece_65 2 rfl 66 rfl ?_
    refine jj_if_ne hX dX0_piece_66 84 69 (by decide) rfl (fun c66 => ?_) (fun c66 => ?_)
    · have h := h.1 c66
      refine jj_aload_n hX dX0_piece_84 0 rfl 85 rfl ?_
      refine xg0_10 hX hY k55 dX0_piece_85 q421 88 rfl ?_
      obtain ⟨b88, g88, h⟩ := h
      refine jj_st (st2 := [.ref b88]) (by rw [va_rf_some g88]) ?_
      obtain ⟨k88, h⟩ := h
      refine xgn4_2 hX hY k88 dX0_piece_88 nq319 91 rfl ?_
      obtain ⟨b91, g91, h⟩ := h
      refine jj_st (st2 := [.ref b91]) (by rw [va_rf_some g91]) ?_
      obtain ⟨k91, h⟩ := h
      refine xgn15_4 hX hY k91 dX0_piece_91 nq1012 94 rfl ?_
      refine jj_iload_n hX dX0_piece_94 1 rfl 95 rfl ?_
      obtain ⟨b95, g95, h⟩ := h
      refine jj_st (st2 := [.int x1, .ref b95]) (by rw [va_rf_some g95]) ?_
      obtain ⟨n95, k95, h⟩ := h
      obtain ⟨hi95, h⟩ := h
      refine jx_iald hX hY.1 k95 _ rfl hi95 dX0_piece_95 96 rfl ?_
      exact jj_reti (post := (fun (r : Int32) (w : XS) => Post r w)) (u := u51) hX dX0_piece_96 (Nat.le_refl 0) (Nat.le_refl 0) jx_hB h
    · have h := h.2 c66
      refine jj_aload_n hX dX0_piece_69 0 rfl 70 rfl ?_
      refine xg0_10 hX hY k55 dX0_piece_70 q421 73 rfl ?_
      obtain ⟨b73, g73, h⟩ := h
      refine jj_st (st2 := [.ref b73]) (by rw [va_rf_some g73]) ?_
      obtain ⟨k73, h⟩ := h
      refine xgn4_2 hX hY k73 dX0_piece_73 nq319 76 rfl ?_
      obtain ⟨b76, g76, h⟩ := h
      refine jj_st (st2 := [.ref b76]) (by rw [va_rf_some g76]) ?_
      obtain ⟨k76, h⟩ := h
      refine xgn15_3 hX hY k76 dX0_piece_76 nq1009 79 rfl ?_
      refine jj_iload_n hX dX0_piece_79 1 rfl 80 rfl ?_
      obtain ⟨b80, g80, h⟩ := h
      refine jj_st (st2 := [.int x1, .ref b80]) (by rw [va_rf_some g80]) ?_
      obtain ⟨n80, k80, h⟩ := h
      obtain ⟨hi80, h⟩ := h
      refine jx_iald hX hY.1 k80 _ rfl hi80 dX0_piece_80 81 rfl ?_
      refine jj_goto hX dX0_piece_81 96 (by decide) ?_
      exact jj_reti (post := (fun (r : Int32) (w : XS) => Post r w)) (u := u51) hX dX0_piece_96 (Nat.le_refl 0) (Nat.le_refl 0) jx_hB h
  · have h := h.2 c58
    refine jj_iconst hX dX0_piece_61 ci_m1 62 rfl ?_
    refine jj_goto hX dX0_piece_62 96 (by decide) ?_
    exact jj_reti (post := (fun (r : Int32) (w : XS) => Post r w)) (u := u51) hX dX0_piece_96 (Nat.le_refl 0) (Nat.le_refl 0) jx_hB h
set_option maxHeartbeats 4000000 in
set_option maxRecDepth 100000 in
theorem mxw0_piece (l : Launch) (hfl : l.stackTraces = false) (D : va_G) (dA aK aV : Nat → Nat) (x0 : Nat) (x1 : Int32) (x2 : Int32) (K : XK) (u : XS) (Post : Int32 → XS → Prop) (h : xw0_piece x0 x1 x2 K u Post) (sz : Nat) : Met l yX0_piece (ws_ yX0_piece cX0_piece 3 (Option.some Jvm.ClassFile.FieldType.int)) (jx_rm 1 25 0 0) (jx_Pc D dA aK aV K u sz [.ref x0, .int x1, .int x2]) (va_Qi (fun (r : Int32) (w : XS) => Post r w) (jx_B D dA K) (AX K sz)) 0 0 (AX K sz) := by
  refine jx_start hfl [.ref x0, .int x1, .int x2] [(0, .ref x0), (1, .int x1), (2, .int x2)] (by decide) (Nat.le_of_ble_eq_true rfl) rfl (fun X hX hY hin => ?_)
  unfold xw0_piece at h
  refine jj_aload_n hX dX0_piece_0 0 rfl 1 rfl ?_
  refine jj_iload_n hX dX0_piece_1 2 rfl 2 rfl ?_
  refine jj_i2l hX dX0_piece_2 3 rfl ?_
  refine jj_lconst (v := 0) hX dX0_piece_3 (by decide) 4 rfl ?_
  refine jj_lconst (v := 1) hX dX0_piece_4 (by decide) 5 rfl ?_
  refine kxs_isIn hX XP.keeps q1074 (Nat.le_of_ble_eq_true rfl) (Nat.le_of_ble_eq_true rfl) (Nat.zero_le _) (Nat.zero_le _) (Nat.le_of_ble_eq_true rfl) dX0_piece_5 8 rfl h (fun r5 hb5 h => ?_)
  refine jj_if_ne hX dX0_piece_8 15 11 (by decide) rfl (fun c8 => ?_) (fun c8 => ?_)
  · have h := h.1 c8
    refine jj_aload_n hX dX0_piece_15 0 rfl 16 rfl ?_
    obtain ⟨k16, h⟩ := h
    refine kxw0_isSet hX hY k16 q1115 (Nat.le_of_ble_eq_true rfl) (Nat.le_of_ble_eq_true rfl) (Nat.zero_le _) (Nat.zero_le _) (Nat.le_of_ble_eq_true rfl) dX0_piece_16 19 rfl h (fun r16 u16 hb16 h => ?_)
    refine jj_if_eq hX dX0_piece_19 49 22 (by decide) rfl (fun c19 => ?_) (fun c19 => ?_)
    · have h := h.1 c19
      refine jj_bipush hX dX0_piece_49 cb_6 51 rfl ?_
      exact txw0_piece_B51 hX hY h
    · have h := h.2 c19
      refine jj_iload_n hX dX0_piece_22 1 rfl 23 rfl ?_
      refine jj_i2l hX dX0_piece_23 24 rfl ?_
      refine jj_lconst (v := 0) hX dX0_piece_24 (by decide) 25 rfl ?_
      refine jj_aload_n hX dX0_piece_25 0 rfl 26 rfl ?_
      refine xg0_10 hX hY k16 dX0_piece_26 q421 29 rfl ?_
      obtain ⟨b29, g29, h⟩ := h
      refine jj_st (st2 := [.ref b29, .long (0 : Int64), .long x1.toInt64, .ref x0]) (by rw [va_rf_some g29]) ?_
      obtain ⟨k29, h⟩ := h
      refine xgn4_2 hX hY k29 dX0_piece_29 nq319 32 rfl ?_
      obtain ⟨b32, g32, h⟩ := h
      refine jj_st (st2 := [.ref b32, .long (0 : Int64), .long x1.toInt64, .ref x0]) (by rw [va_rf_some g32]) ?_
      obtain ⟨k32, h⟩ := h
      refine xgn15_2 hX hY k32 dX0_piece_32 nq1006 35 rfl ?_
      obtain ⟨b35, g35, h⟩ := h
      refine jj_st (st2 := [.ref b35, .long (0 : Int64), .long x1.toInt64, .ref x0]) (by rw [va_rf_some g35]) ?_
      obtain ⟨n35, k35, h⟩ := h
      refine jx_alen hX hY.1 k35 dX0_piece_35 36 rfl ?_
      refine jj_iconst hX dX0_piece_36 ci_1 37 rfl ?_
      refine jj_isub hX dX0_piece_37 38 rfl ?_
      refine jj_i2l hX dX0_piece_38 39 rfl ?_
      refine kxs_isIn hX XP.keeps q1074 (Nat.le_of_ble_eq_true rfl) (Nat.le_of_ble_eq_true rfl) (Nat.zero_le _) (Nat.zero_le _) (Nat.le_of_ble_eq_true rfl) dX0_piece_39 42 rfl h (fun r39 hb39 h => ?_)
      refine jj_if_eq hX dX0_piece_42 49 45 (by decide) rfl (fun c42 => ?_) (fun c42 => ?_)
      · have h := h.1 c42
        refine jj_bipush hX dX0_piece_49 cb_6 51 rfl ?_
        exact txw0_piece_B51 hX hY h
      · have h := h.2 c42
        refine jj_iconst hX dX0_piece_45 ci_0 46 rfl ?_
        refine jj_goto hX dX0_piece_46 51 (by decide) ?_
        exact txw0_piece_B51 hX hY h
  · have h := h.2 c8
    refine jj_iconst hX dX0_piece_11 ci_1 12 rfl ?_
    refine jj_goto hX dX0_piece_12 51 (by decide) ?_
    exact txw0_piece_B51 hX hY h
theorem hd_xw0_piece : yX0_piece.cls ≠ "java/lang/invoke/MethodHandle" ∧ yX0_piece.cls ≠ "java/lang/invoke/VarHandle" ∧ (parseMethodDescriptor yX0_piece.desc).map (fun d => d.parameters.length) = some 2 := by decide +kernel
theorem kxw0_piece {X : JC} {A : Nat → Prop} {Q : State → Prop} {nL k n pc : Nat} {lv : List (Nat × Value)} {st : List Value} {own : String} {cc : ByteArray} {ret : Option FieldType} {F LL mc ms ix : Nat} {D : va_G} {dA aK aV : Nat → Nat} {K : XK} {u : XS} {x0 : Nat} {x1 : Int32} {x2 : Int32} {Post : Int32 → XS → Prop} (hX : JX X own cc nL ret F LL mc ms) (hY : JY X D dA aK aV A) (h1a : K x0 = (1, 0)) (hlk : (Cond.methodLink own ix yX0_piece) ∈ lw_all) (hF : 1 + 1 ≤ F) (hL : 8 + (3 + 11) + 25 ≤ LL) (hk : k ≤ mc) (hk2 : n ≤ ms) (hw : (st.map fun v => v.category).sum ≤ 8) (d : decode cc pc = .ok (.invokevirtual ix, 3)) (q : Nat) (hq : pc + 3 = q) (h : xw0_piece x0 x1 x2 K u  Post) (kk : ∀ (r : Int32) (u2 : XS), Post r u2 → JJ X A Q nL (XP D dA A K u2) k n q lv (.int r :: st)) : JJ X A Q nL (XP D dA A K u) k n pc lv (.int x2 :: .int x1 :: .ref x0 :: st) :=
  jx_callVi (na := 2) (As := [.int x1, .int x2]) hX hY jf0 h1a (fun sz => mxw0_piece (jj_l X) hY.2.2.2.2 D dA aK aV x0 x1 x2 K u  Post h sz) hlk q1220 q1221 q120 q1222 ⟨rfl, hd_xw0_piece⟩ rfl rfl hw hF hL hk hk2 d q hq kk
theorem knxw0_piece {X : JC} {A : Nat → Prop} {Q : State → Prop} {nL k n pc : Nat} {lv : List (Nat × Value)} {st : List Value} {own : String} {cc : ByteArray} {ret : Option FieldType} {F LL mc ms ix : Nat} {D : va_G} {dA aK aV : Nat → Nat} {K : XK} {u : XS} {x0 : Nat} {x1 : Int32} {x2 : Int32} {host : String} {Post : Int32 → XS → Prop} (hX : JX X own cc nL ret F LL mc ms) (hY : JY X D dA aK aV A) (h1a : K x0 = (1, 0)) (hlk : (Cond.methodLinkNest own ix yX0_piece host) ∈ jx_nest) (hF : 1 + 1 ≤ F) (hL : 8 + (3 + 11) + 25 ≤ LL) (hk : k ≤ mc) (hk2 : n ≤ ms) (hw : (st.map fun v => v.category).sum ≤ 8) (d : decode cc pc = .ok (.invokevirtual ix, 3)) (q : Nat) (hq : pc + 3 = q) (h : xw0_piece x0 x1 x2 K u  Post) (kk : ∀ (r : Int32) (u2 : XS), Post r u2 → JJ X A Q nL (XP D dA A K u2) k n q lv (.int r :: st)) : JJ X A Q nL (XP D dA A K u) k n pc lv (.int x2 :: .int x1 :: .ref x0 :: st) :=
  jx_callNi (na := 2) (As := [.int x1, .int x2]) hX hY jf0 h1a (fun sz => mxw0_piece (jj_l X) hY.2.2.2.2 D dA aK aV x0 x1 x2 K u  Post h sz) hlk q1220 q1221 q120 q1222 hd_xw0_piece rfl rfl hw hF hL hk hk2 d q hq kk
/-- RaisedPress.by(I)I -/
def xw0_by (x0 : Nat) (x1 : Int32) (K : XK) (u : XS) (Post : Int32 → XS → Prop) : Prop :=
  K x0 = (1, 0) ∧
  xw0_isSet x0 K u (fun r2 u2 =>
    (r2 = 0 →
      xw0_answer x0 (-1 : Int32) K u2 (fun r47 u47 =>
        Post r47 u47)) ∧
    (¬ r2 = 0 →
      ∃ b15, (xr u2 x0 10) = some b15 ∧
      K b15 = (1, 4) ∧
      ∃ b18, (xr u2 b15 2) = some b18 ∧
      K b18 = (1, 15) ∧
      ∃ b21, (xr u2 b18 1) = some b21 ∧
      ∃ n21, K b21 = (2, n21) ∧
      xs_isIn x1.toInt64 (0 : Int64) ((nI n21) - (1 : Int32)).toInt64 (fun r25 =>
        (r25 = 0 →
          xw0_answer x0 (-1 : Int32) K u2 (fun r47 u47 =>
            Post r47 u47)) ∧
        (¬ r25 = 0 →
          ∃ b35, (xr u2 x0 10) = some b35 ∧
          K b35 = (1, 4) ∧
          ∃ b38, (xr u2 b35 2) = some b38 ∧
          K b38 = (1, 15) ∧
          ∃ b42, (xr u2 b38 6) = some b42 ∧
          ∃ n42, K b42 = (2, n42) ∧
          vp_in x1 n42 ∧
          xw0_answer x0 (xi u2 b42 x1.toNatClampNeg) K u2 (fun r47 u47 =>
            Post r47 u47)))))
set_option maxHeartbeats 4000000 in
set_option maxRecDepth 100000 in
theorem mxw0_by (l : Launch) (hfl : l.stackTraces = false) (D : va_G) (dA aK aV : Nat → Nat) (x0 : Nat) (x1 : Int32) (K : XK) (u : XS) (Post : Int32 → XS → Prop) (h : xw0_by x0 x1 K u Post) (sz : Nat) : Met l yX0_by (ws_ yX0_by cX0_by 2 (Option.some Jvm.ClassFile.FieldType.int)) (jx_rm 1 25 0 0) (jx_Pc D dA aK aV K u sz [.ref x0, .int x1]) (va_Qi (fun (r : Int32) (w : XS) => Post r w) (jx_B D dA K) (AX K sz)) 0 0 (AX K sz) := by
  refine jx_start hfl [.ref x0, .int x1] [(0, .ref x0), (1, .int x1)] (by decide) (Nat.le_of_ble_eq_true rfl) rfl (fun X hX hY hin => ?_)
  unfold xw0_by at h
  refine jj_aload_n hX dX0_by_0 0 rfl 1 rfl ?_
  refine jj_aload_n hX dX0_by_1 0 rfl 2 rfl ?_
  obtain ⟨k2, h⟩ := h
  refine kxw0_isSet hX hY k2 q1115 (Nat.le_of_ble_eq_true rfl) (Nat.le_of_ble_eq_true rfl) (Nat.zero_le _) (Nat.zero_le _) (Nat.le_of_ble_eq_true rfl) dX0_by_2 5 rfl h (fun r2 u2 hb2 h => ?_)
  refine jj_if_eq hX dX0_by_5 46 8 (by decide) rfl (fun c5 => ?_) (fun c5 => ?_)
  · have h := h.1 c5
    refine jj_iconst hX dX0_by_46 ci_m1 47 rfl ?_
    refine kxw0_answer hX hY k2 q1077 (Nat.le_of_ble_eq_true rfl) (Nat.le_of_ble_eq_true rfl) (Nat.zero_le _) (Nat.zero_le _) (Nat.le_of_ble_eq_true rfl) dX0_by_47 50 rfl h (fun r47 u47 h => ?_)
    exact jj_reti (post := (fun (r : Int32) (w : XS) => Post r w)) (u := u47) hX dX0_by_50 (Nat.le_refl 0) (Nat.le_refl 0) jx_hB h
  · have h := h.2 c5
    refine jj_iload_n hX dX0_by_8 1 rfl 9 rfl ?_
    refine jj_i2l hX dX0_by_9 10 rfl ?_
    refine jj_lconst (v := 0) hX dX0_by_10 (by decide) 11 rfl ?_
    refine jj_aload_n hX dX0_by_11 0 rfl 12 rfl ?_
    refine xg0_10 hX hY k2 dX0_by_12 q421 15 rfl ?_
    obtain ⟨b15, g15, h⟩ := h
    refine jj_st (st2 := [.ref b15, .long (0 : Int64), .long x1.toInt64, .ref x0]) (by rw [va_rf_some g15]) ?_
    obtain ⟨k15, h⟩ := h
    refine xgn4_2 hX hY k15 dX0_by_15 nq319 18 rfl ?_
    obtain ⟨b18, g18, h⟩ := h
    refine jj_st (st2 := [.ref b18, .long (0 : Int64), .long x1.toInt64, .ref x0]) (by rw [va_rf_some g18]) ?_
    obtain ⟨k18, h⟩ := h
    refine xgn15_1 hX hY k18 dX0_by_18 nq1003 21 rfl ?_
    obtain ⟨b21, g21, h⟩ := h
    refine jj_st (st2 := [.ref b21, .long (0 : Int64), .long x1.toInt64, .ref x0]) (by rw [va_rf_some g21]) ?_
    obtain ⟨n21, k21, h⟩ := h
    refine jx_alen hX hY.1 k21 dX0_by_21 22 rfl ?_
    refine jj_iconst hX dX0_by_22 ci_1 23 rfl ?_
    refine jj_isub hX dX0_by_23 24 rfl ?_
    refine jj_i2l hX dX0_by_24 25 rfl ?_
    refine kxs_isIn hX XP.keeps q1074 (Nat.le_of_ble_eq_true rfl) (Nat.le_of_ble_eq_true rfl) (Nat.zero_le _) (Nat.zero_le _) (Nat.le_of_ble_eq_true rfl) dX0_by_25 28 rfl h (fun r25 hb25 h => ?_)
    refine jj_if_eq hX dX0_by_28 46 31 (by decide) rfl (fun c28 => ?_) (fun c28 => ?_)
    · have h := h.1 c28
      refine jj_iconst hX dX0_by_46 ci_m1 47 rfl ?_
      refine kxw0_answer hX hY k2 q1077 (Nat.le_of_ble_eq_true rfl) (Nat.le_of_ble_eq_true rfl) (Nat.zero_le _) (Nat.zero_le _) (Nat.le_of_ble_eq_true rfl) dX0_by_47 50 rfl h (fun r47 u47 h => ?_)
      exact jj_reti (post := (fun (r : Int32) (w : XS) => Post r w)) (u := u47) hX dX0_by_50 (Nat.le_refl 0) (Nat.le_refl 0) jx_hB h
    · have h := h.2 c28
      refine jj_aload_n hX dX0_by_31 0 rfl 32 rfl ?_
      refine xg0_10 hX hY k2 dX0_by_32 q421 35 rfl ?_
      obtain ⟨b35, g35, h⟩ := h
      refine jj_st (st2 := [.ref b35, .ref x0]) (by rw [va_rf_some g35]) ?_
      obtain ⟨k35, h⟩ := h
      refine xgn4_2 hX hY k35 dX0_by_35 nq319 38 rfl ?_
      obtain ⟨b38, g38, h⟩ := h
      refine jj_st (st2 := [.ref b38, .ref x0]) (by rw [va_rf_some g38]) ?_
      obtain ⟨k38, h⟩ := h
      refine xgn15_6 hX hY k38 dX0_by_38 nq1018 41 rfl ?_
      refine jj_iload_n hX dX0_by_41 1 rfl 42 rfl ?_
      obtain ⟨b42, g42, h⟩ := h
      refine jj_st (st2 := [.int x1, .ref b42, .ref x0]) (by rw [va_rf_some g42]) ?_
      obtain ⟨n42, k42, h⟩ := h
      obtain ⟨hi42, h⟩ := h
      refine jx_iald hX hY.1 k42 _ rfl hi42 dX0_by_42 43 rfl ?_
      refine jj_goto hX dX0_by_43 47 (by decide) ?_
      refine kxw0_answer hX hY k2 q1077 (Nat.le_of_ble_eq_true rfl) (Nat.le_of_ble_eq_true rfl) (Nat.zero_le _) (Nat.zero_le _) (Nat.le_of_ble_eq_true rfl) dX0_by_47 50 rfl h (fun r47 u47 h => ?_)
      exact jj_reti (post := (fun (r : Int32) (w : XS) => Post r w)) (u := u47) hX dX0_by_50 (Nat.le_refl 0) (Nat.le_refl 0) jx_hB h
theorem hd_xw0_by : yX0_by.cls ≠ "java/lang/invoke/MethodHandle" ∧ yX0_by.cls ≠ "java/lang/invoke/VarHandle" ∧ (parseMethodDescriptor yX0_by.desc).map (fun d => d.parameters.length) = some 1 := by decide +kernel
theorem kxw0_by {X : JC} {A : Nat → Prop} {Q : State → Prop} {nL k n pc : Nat} {lv : List (Nat × Value)} {st : List Value} {own : String} {cc : ByteArray} {ret : Option FieldType} {F LL mc ms ix : Nat} {D : va_G} {dA aK aV : Nat → Nat} {K : XK} {u : XS} {x0 : Nat} {x1 : Int32} {Post : Int32 → XS → Prop} (hX : JX X own cc nL ret F LL mc ms) (hY : JY X D dA aK aV A) (h1a : K x0 = (1, 0)) (hlk : (Cond.methodLink own ix yX0_by) ∈ lw_all) (hF : 1 + 1 ≤ F) (hL : 8 + (2 + 11) + 25 ≤ LL) (hk : k ≤ mc) (hk2 : n ≤ ms) (hw : (st.map fun v => v.category).sum ≤ 8) (d : decode cc pc = .ok (.invokevirtual ix, 3)) (q : Nat) (hq : pc + 3 = q) (h : xw0_by x0 x1 K u  Post) (kk : ∀ (r : Int32) (u2 : XS), Post r u2 → JJ X A Q nL (XP D dA A K u2) k n q lv (.int r :: st)) : JJ X A Q nL (XP D dA A K u) k n pc lv (.int x1 :: .ref x0 :: st) :=
  jx_callVi (na := 1) (As := [.int x1]) hX hY jf0 h1a (fun sz => mxw0_by (jj_l X) hY.2.2.2.2 D dA aK aV x0 x1 K u  Post h sz) hlk q1224 q1225 q120 q1226 ⟨rfl, hd_xw0_by⟩ rfl rfl hw hF hL hk hk2 d q hq kk
theorem knxw0_by {X : JC} {A : Nat → Prop} {Q : State → Prop} {nL k n pc : Nat} {lv : List (Nat × Value)} {st : List Value} {own : String} {cc : ByteArray} {ret : Option FieldType} {F LL mc ms ix : Nat} {D : va_G} {dA aK aV : Nat → Nat} {K : XK} {u : XS} {x0 : Nat} {x1 : Int32} {host : String} {Post : Int32 → XS → Prop} (hX : JX X own cc nL ret F LL mc ms) (hY : JY X D dA aK aV A) (h1a : K x0 = (1, 0)) (hlk : (Cond.methodLinkNest own ix yX0_by host) ∈ jx_nest) (hF : 1 + 1 ≤ F) (hL : 8 + (2 + 11) + 25 ≤ LL) (hk : k ≤ mc) (hk2 : n ≤ ms) (hw : (st.map fun v => v.category).sum ≤ 8) (d : decode cc pc = .ok (.invokevirtual ix, 3)) (q : Nat) (hq : pc + 3 = q) (h : xw0_by x0 x1 K u  Post) (kk : ∀ (r : Int32) (u2 : XS), Post r u2 → JJ X A Q nL (XP D dA A K u2) k n q lv (.int r :: st)) : JJ X A Q nL (XP D dA A K u) k n pc lv (.int x1 :: .ref x0 :: st) :=
  jx_callNi (na := 1) (As := [.int x1]) hX hY jf0 h1a (fun sz => mxw0_by (jj_l X) hY.2.2.2.2 D dA aK aV x0 x1 K u  Post h sz) hlk q1224 q1225 q120 q1226 hd_xw0_by rfl rfl hw hF hL hk hk2 d q hq kk
def xw0_dense_L69_S (Post : Int32 → XS → Prop) (K : XK) (x0 : Nat) (x1 : Int32) (R : Int32 → Int32 → Int32 → XS → Prop) (x2 : Int32) (x3 : Int32) (x4 : Int32) (u : XS) : Prop :=
  K x0 = (1, 0) ∧
  ∃ b75, (xr u x0 10) = some b75 ∧
  K b75 = (1, 4) ∧
  ∃ b78, (xr u b75 2) = some b78 ∧
  K b78 = (1, 15) ∧
  ∃ b81, (xr u b78 1) = some b81 ∧
  ∃ n81, K b81 = (2, n81) ∧
  ((nI n81) ≤ x4 →
    Post x2 u) ∧
  (¬ (nI n81) ≤ x4 →
    ∃ b90, (xr u x0 10) = some b90 ∧
    K b90 = (1, 4) ∧
    ∃ b93, (xr u b90 2) = some b93 ∧
    K b93 = (1, 15) ∧
    ∃ b98, (xr u b93 1) = some b98 ∧
    ∃ n98, K b98 = (2, n98) ∧
    vp_in x4 n98 ∧
    js_bitCount (xi u b98 x4.toNatClampNeg) (fun r99 =>
      ∀ v103 : Int32, v103 = (x3 + r99) →
      (x4 < x1 →
        jw_max x2 v103 (fun r133 =>
          ∀ v137 : Int32, v137 = x4 + (1 : Int32) →
          R r133 v103 v137 u)) ∧
      (¬ x4 < x1 →
        ∃ b115, (xr u x0 10) = some b115 ∧
        K b115 = (1, 4) ∧
        ∃ b118, (xr u b115 2) = some b118 ∧
        K b118 = (1, 15) ∧
        ∃ b125, (xr u b118 1) = some b125 ∧
        ∃ n125, K b125 = (2, n125) ∧
        vp_in (x4 - x1) n125 ∧
        js_bitCount (xi u b125 (x4 - x1).toNatClampNeg) (fun r126 =>
          ∀ v130 : Int32, v130 = (v103 - r126) →
          jw_max x2 v130 (fun r133 =>
            ∀ v137 : Int32, v137 = x4 + (1 : Int32) →
            R r133 v130 v137 u)))))
def xw0_dense_L69 (Post : Int32 → XS → Prop) (K : XK) (x0 : Nat) (x1 : Int32) : Nat → Int32 → Int32 → Int32 → XS → Prop
  | 0 => fun _ _ _ _ => False
  | n + 1 => fun x2 x3 x4 u => xw0_dense_L69_S Post K x0 x1 (xw0_dense_L69 Post K x0 x1 n) x2 x3 x4 u
def xw0_dense_B50 (Post : Int32 → XS → Prop) (K : XK) (x0 : Nat) (x1 : Int32) (s0 : Int32) (s1 : Nat) (u : XS) : Prop :=
  K s1 = (1, 0) ∧
  ∀ u50 : XS, u50 = xsi u s1 7 s0 →
  K x0 = (1, 0) ∧
  ((xi u50 x0 7) ≤ 0 →
    ∃ n, xw0_dense_L69 Post K x0 x1 n (0 : Int32) (0 : Int32) (0 : Int32) u50) ∧
  (¬ (xi u50 x0 7) ≤ 0 →
    Post (-1 : Int32) u50)
/-- RaisedPress.dense(I)I -/
def xw0_dense (x0 : Nat) (x1 : Int32) (K : XK) (u : XS) (Post : Int32 → XS → Prop) : Prop :=
  xs_isIn x1.toInt64 (1 : Int64) (40 : Int64) (fun r7 =>
    (¬ r7 = 0 →
      K x0 = (1, 0) ∧
      xw0_isSet x0 K u (fun r18 u18 =>
        (¬ r18 = 0 →
          ∃ b33, (xr u18 x0 10) = some b33 ∧
          K b33 = (1, 4) ∧
          ∃ b36, (xr u18 b33 2) = some b36 ∧
          K b36 = (1, 15) ∧
          ∃ b39, (xr u18 b36 1) = some b39 ∧
          ∃ n39, K b39 = (2, n39) ∧
          (x1 ≤ (nI n39) →
            xw0_dense_B50 Post K x0 x1 (0 : Int32) x0 u18) ∧
          (¬ x1 ≤ (nI n39) →
            xw0_dense_B50 Post K x0 x1 (7 : Int32) x0 u18)) ∧
        (r18 = 0 →
          xw0_dense_B50 Post K x0 x1 (6 : Int32) x0 u18))) ∧
    (r7 = 0 →
      xw0_dense_B50 Post K x0 x1 (1 : Int32) x0 u))
set_option maxHeartbeats 4000000 in
set_option maxRecDepth 100000 in
theorem txw0_dense_L69 {X : JC} {D : va_G} {dA aK aV : Nat → Nat} {sz : Nat} {K : XK} {Post : Int32 → XS → Prop} {x0 : Nat} {x1 : Int32} (hX : JX X yX0_dense.cls cX0_dense 5 (Option.some Jvm.ClassFile.FieldType.int) 1 25 0 0) (hY : JY X D dA aK aV (AX K sz)) : ∀ (n : Nat) (x2 : Int32) (x3 : Int32) (x4 : Int32) (u : XS), xw0_dense_L69 Post K x0 x1 n x2 x3 x4 u → JJ X (AX K sz) (jj_Q X (va_Qi (fun (r : Int32) (w : XS) => Post r w) (jx_B D dA K) (AX K sz)) 0 0 (AX K sz)) 5 (XP D dA (AX K sz) K u) 0 0 69 [(0, .ref x0), (1, .int x1), (2, .int x2), (3, .int x3), (4, .int x4)] [] := by
  intro n
  induction n with
  | zero =>
    intro x2 x3 x4 u h
    exact h.elim
  | succ n ih =>
    intro x2 x3 x4 u h
    have h : xw0_dense_L69_S Post K x0 x1 (xw0_dense_L69 Post K x0 x1 n) x2 x3 x4 u := h
    unfold xw0_dense_L69_S at h
    refine jj_iload hX dX0_dense_69 4 rfl 71 rfl ?_
    refine jj_aload_n hX dX0_dense_71 0 rfl 72 rfl ?_
    obtain ⟨k72, h⟩ := h
    refine xg0_10 hX hY k72 dX0_dense_72 q421 75 rfl ?_
    obtain ⟨b75, g75, h⟩ := h
    refine jj_st (st2 := [.ref b75, .int x4]) (by rw [va_rf_some g75]) ?_
    obtain ⟨k75, h⟩ := h
    refine xgn4_2 hX hY k75 dX0_dense_75 nq319 78 rfl ?_
    obtain ⟨b78, g78, h⟩ := h
    refine jj_st (st2 := [.ref b78, .int x4]) (by rw [va_rf_some g78]) ?_
    obtain ⟨k78, h⟩ := h
    refine xgn15_1 hX hY k78 dX0_dense_78 nq1003 81 rfl ?_
    obtain ⟨b81, g81, h⟩ := h
    refine jj_st (st2 := [.ref b81, .int x4]) (by rw [va_rf_some g81]) ?_
    obtain ⟨n81, k81, h⟩ := h
    refine jx_alen hX hY.1 k81 dX0_dense_81 82 rfl ?_
    refine jj_icmp_ge hX dX0_dense_82 143 85 (by decide) rfl (fun c82 => ?_) (fun c82 => ?_)
    · have h := h.1 c82
      refine jj_iload_n hX dX0_dense_143 2 rfl 144 rfl ?_
      exact jj_reti (post := (fun (r : Int32) (w : XS) => Post r w)) (u := u) hX dX0_dense_144 (Nat.le_refl 0) (Nat.le_refl 0) jx_hB h
    · have h := h.2 c82
      refine jj_iload_n hX dX0_dense_85 3 rfl 86 rfl ?_
      refine jj_aload_n hX dX0_dense_86 0 rfl 87 rfl ?_
      refine xg0_10 hX hY k72 dX0_dense_87 q421 90 rfl ?_
      obtain ⟨b90, g90, h⟩ := h
      refine jj_st (st2 := [.ref b90, .int x3]) (by rw [va_rf_some g90]) ?_
      obtain ⟨k90, h⟩ := h
      refine xgn4_2 hX hY k90 dX0_dense_90 nq319 93 rfl ?_
      obtain ⟨b93, g93, h⟩ := h
      refine jj_st (st2 := [.ref b93, .int x3]) (by rw [va_rf_some g93]) ?_
      obtain ⟨k93, h⟩ := h
      refine xgn15_1 hX hY k93 dX0_dense_93 nq1003 96 rfl ?_
      refine jj_iload hX dX0_dense_96 4 rfl 98 rfl ?_
      obtain ⟨b98, g98, h⟩ := h
      refine jj_st (st2 := [.int x4, .ref b98, .int x3]) (by rw [va_rf_some g98]) ?_
      obtain ⟨n98, k98, h⟩ := h
      obtain ⟨hi98, h⟩ := h
      refine jx_iald hX hY.1 k98 _ rfl hi98 dX0_dense_98 99 rfl ?_
      refine kjs_bitCount hX XP.keeps q1181 (Nat.le_of_ble_eq_true rfl) (Nat.le_of_ble_eq_true rfl) (Nat.zero_le _) (Nat.zero_le _) (Nat.le_of_ble_eq_true rfl) dX0_dense_99 102 rfl h (fun r99 h => ?_)
      refine jj_iadd hX dX0_dense_102 103 rfl ?_
      refine jj_topi (fun v103 e103 => ?_)
      have h := h v103 e103
      refine jj_istore_n (lv2 := [(0, .ref x0), (1, .int x1), (2, .int x2), (3, .int v103), (4, .int x4)]) hX dX0_dense_103 (Nat.le_of_ble_eq_true rfl) [1, 2, 3, 0, 4] rfl 104 rfl ?_
      refine jj_iload hX dX0_dense_104 4 rfl 106 rfl ?_
      refine jj_iload_n hX dX0_dense_106 1 rfl 107 rfl ?_
      refine jj_icmp_lt hX dX0_dense_107 131 110 (by decide) rfl (fun c107 => ?_) (fun c107 => ?_)
      · have h := h.1 c107
        refine jj_iload_n hX dX0_dense_131 2 rfl 132 rfl ?_
        refine jj_iload_n hX dX0_dense_132 3 rfl 133 rfl ?_
        refine kjw_max hX XP.keeps q1232 (Nat.le_of_ble_eq_true rfl) (Nat.le_of_ble_eq_true rfl) (Nat.zero_le _) (Nat.zero_le _) (Nat.le_of_ble_eq_true rfl) dX0_dense_133 136 rfl h (fun r133 h => ?_)
        refine jj_istore_n (lv2 := [(0, .ref x0), (1, .int x1), (2, .int r133), (3, .int v103), (4, .int x4)]) hX dX0_dense_136 (Nat.le_of_ble_eq_true rfl) [1, 2, 0, 3, 4] rfl 137 rfl ?_
        obtain ⟨v137, e137⟩ : ∃ y : Int32, y = x4 + (1 : Int32) := ⟨_, rfl⟩
        have h := h v137 e137
        refine jj_iinc (v := v137) (lv2 := [(0, .ref x0), (1, .int x1), (2, .int r133), (3, .int v103), (4, .int v137)]) hX dX0_dense_137 4 rfl (by rw [e137, ci_1]) (Nat.le_of_ble_eq_true rfl) [1, 2, 3, 4, 0] rfl 140 rfl ?_
        refine jj_goto hX dX0_dense_140 69 (by decide) ?_
        exact ih _ _ _ _ h
      · have h := h.2 c107
        refine jj_iload_n hX dX0_dense_110 3 rfl 111 rfl ?_
        refine jj_aload_n hX dX0_dense_111 0 rfl 112 rfl ?_
        refine xg0_10 hX hY k72 dX0_dense_112 q421 115 rfl ?_
        obtain ⟨b115, g115, h⟩ := h
        refine jj_st (st2 := [.ref b115, .int v103]) (by rw [va_rf_some g115]) ?_
        obtain ⟨k115, h⟩ := h
        refine xgn4_2 hX hY k115 dX0_dense_115 nq319 118 rfl ?_
        obtain ⟨b118, g118, h⟩ := h
        refine jj_st (st2 := [.ref b118, .int v103]) (by rw [va_rf_some g118]) ?_
        obtain ⟨k118, h⟩ := h
        refine xgn15_1 hX hY k118 dX0_dense_118 nq1003 121 rfl ?_
        refine jj_iload hX dX0_dense_121 4 rfl 123 rfl ?_
        refine jj_iload_n hX dX0_dense_123 1 rfl 124 rfl ?_
        refine jj_isub hX dX0_dense_124 125 rfl ?_
        obtain ⟨b125, g125, h⟩ := h
        refine jj_st (st2 := [.int (x4 - x1), .ref b125, .int v103]) (by rw [va_rf_some g125]) ?_
        obtain ⟨n125, k125, h⟩ := h
        obtain ⟨hi125, h⟩ := h
        refine jx_iald hX hY.1 k125 _ rfl hi125 dX0_dense_125 126 rfl ?_
        refine kjs_bitCount hX XP.keeps q1181 (Nat.le_of_ble_eq_true rfl) (Nat.le_of_ble_eq_true rfl) (Nat.zero_le _) (Nat.zero_le _) (Nat.le_of_ble_eq_true rfl) dX0_dense_126 129 rfl h (fun r126 h => ?_)
        refine jj_isub hX dX0_dense_129 130 rfl ?_
        refine jj_topi (fun v130 e130 => ?_)
        have h := h v130 e130
        refine jj_istore_n (lv2 := [(0, .ref x0), (1, .int x1), (2, .int x2), (3, .int v130), (4, .int x4)]) hX dX0_dense_130 (Nat.le_of_ble_eq_true rfl) [1, 2, 3, 0, 4] rfl 131 rfl ?_
        refine jj_iload_n hX dX0_dense_131 2 rfl 132 rfl ?_
        refine jj_iload_n hX dX0_dense_132 3 rfl 133 rfl ?_
        refine kjw_max hX XP.keeps q1232 (Nat.le_of_ble_eq_true rfl) (Nat.le_of_ble_eq_true rfl) (Nat.zero_le _) (Nat.zero_le _) (Nat.le_of_ble_eq_true rfl) dX0_dense_133 136 rfl h (fun r133 h => ?_)
        refine jj_istore_n (lv2 := [(0, .ref x0), (1, .int x1), (2, .int r133), (3, .int v130), (4, .int x4)]) hX dX0_dense_136 (Nat.le_of_ble_eq_true rfl) [1, 2, 0, 3, 4] rfl 137 rfl ?_
        obtain ⟨v137, e137⟩ : ∃ y : Int32, y = x4 + (1 : Int32) := ⟨_, rfl⟩
        have h := h v137 e137
        refine jj_iinc (v := v137) (lv2 := [(0, .ref x0), (1, .int x1), (2, .int r133), (3, .int v130), (4, .int v137)]) hX dX0_dense_137 4 rfl (by rw [e137, ci_1]) (Nat.le_of_ble_eq_true rfl) [1, 2, 3, 4, 0] rfl 140 rfl ?_
        refine jj_goto hX dX0_dense_140 69 (by decide) ?_
        exact ih _ _ _ _ h
set_option maxHeartbeats 4000000 in
set_option maxRecDepth 100000 in
theorem txw0_dense_B50 {X : JC} {D : va_G} {dA aK aV : Nat → Nat} {sz : Nat} {K : XK} {Post : Int32 → XS → Prop} {x0 : Nat} {x1 : Int32} {s0 : Int32} {s1 : Nat} {u : XS} (hX : JX X yX0_dense.cls cX0_dense 5 (Option.some Jvm.ClassFile.FieldType.int) 1 25 0 0) (hY : JY X D dA aK aV (AX K sz)) (h : xw0_dense_B50 Post K x0 x1 s0 s1 u) : JJ X (AX K sz) (jj_Q X (va_Qi (fun (r : Int32) (w : XS) => Post r w) (jx_B D dA K) (AX K sz)) 0 0 (AX K sz)) 5 (XP D dA (AX K sz) K u) 0 0 50 [(0, .ref x0), (1, .int x1)] [.int s0, .ref s1] := by
  unfold xw0_dense_B50 at h
  obtain ⟨k50, h⟩ := h
  refine xp0_7 hX hY k50 dX0_dense_50 q418 53 rfl (fun u50 e50 => ?_)
  have h := h u50 e50
  refine jj_aload_n hX dX0_dense_53 0 rfl 54 rfl ?_
  obtain ⟨k54, h⟩ := h
  refine xg0_7 hX hY k54 dX0_dense_54 q418 57 rfl ?_
  refine jj_if_le hX dX0_dense_57 62 60 (by decide) rfl (fun c57 => ?_) (fun c57 => ?_)
  · have h := h.1 c57
    refine jj_iconst hX dX0_dense_62 ci_0 63 rfl ?_
    refine jj_istore_n (lv2 := [(0, .ref x0), (1, .int x1), (2, .int (0 : Int32))]) hX dX0_dense_63 (Nat.le_of_ble_eq_true rfl) [1, 2, 0] rfl 64 rfl ?_
    refine jj_iconst hX dX0_dense_64 ci_0 65 rfl ?_
    refine jj_istore_n (lv2 := [(0, .ref x0), (1, .int x1), (2, .int (0 : Int32)), (3, .int (0 : Int32))]) hX dX0_dense_65 (Nat.le_of_ble_eq_true rfl) [1, 2, 3, 0] rfl 66 rfl ?_
    refine jj_iconst hX dX0_dense_66 ci_0 67 rfl ?_
    refine jj_istore (lv2 := [(0, .ref x0), (1, .int x1), (2, .int (0 : Int32)), (3, .int (0 : Int32)), (4, .int (0 : Int32))]) hX dX0_dense_67 (Nat.le_of_ble_eq_true rfl) [1, 2, 3, 4, 0] rfl 69 rfl ?_
    obtain ⟨n9, h⟩ := h
    exact txw0_dense_L69 hX hY n9 _ _ _ _ h
  · have h := h.2 c57
    refine jj_iconst hX dX0_dense_60 ci_m1 61 rfl ?_
    exact jj_reti (post := (fun (r : Int32) (w : XS) => Post r w)) (u := u50) hX dX0_dense_61 (Nat.le_refl 0) (Nat.le_refl 0) jx_hB h
set_option maxHeartbeats 4000000 in
set_option maxRecDepth 100000 in
theorem mxw0_dense (l : Launch) (hfl : l.stackTraces = false) (D : va_G) (dA aK aV : Nat → Nat) (x0 : Nat) (x1 : Int32) (K : XK) (u : XS) (Post : Int32 → XS → Prop) (h : xw0_dense x0 x1 K u Post) (sz : Nat) : Met l yX0_dense (ws_ yX0_dense cX0_dense 5 (Option.some Jvm.ClassFile.FieldType.int)) (jx_rm 1 25 0 0) (jx_Pc D dA aK aV K u sz [.ref x0, .int x1]) (va_Qi (fun (r : Int32) (w : XS) => Post r w) (jx_B D dA K) (AX K sz)) 0 0 (AX K sz) := by
  refine jx_start hfl [.ref x0, .int x1] [(0, .ref x0), (1, .int x1)] (by decide) (Nat.le_of_ble_eq_true rfl) rfl (fun X hX hY hin => ?_)
  unfold xw0_dense at h
  refine jj_aload_n hX dX0_dense_0 0 rfl 1 rfl ?_
  refine jj_iload_n hX dX0_dense_1 1 rfl 2 rfl ?_
  refine jj_i2l hX dX0_dense_2 3 rfl ?_
  refine jj_lconst (v := 1) hX dX0_dense_3 (by decide) 4 rfl ?_
  refine jj_ldc2 (v := 40) hX dX0_dense_4 q1231 7 rfl ?_
  refine kxs_isIn hX XP.keeps q1074 (Nat.le_of_ble_eq_true rfl) (Nat.le_of_ble_eq_true rfl) (Nat.zero_le _) (Nat.zero_le _) (Nat.le_of_ble_eq_true rfl) dX0_dense_7 10 rfl h (fun r7 hb7 h => ?_)
  refine jj_if_ne hX dX0_dense_10 17 13 (by decide) rfl (fun c10 => ?_) (fun c10 => ?_)
  · have h := h.1 c10
    refine jj_aload_n hX dX0_dense_17 0 rfl 18 rfl ?_
    obtain ⟨k18, h⟩ := h
    refine kxw0_isSet hX hY k18 q1115 (Nat.le_of_ble_eq_true rfl) (Nat.le_of_ble_eq_true rfl) (Nat.zero_le _) (Nat.zero_le _) (Nat.le_of_ble_eq_true rfl) dX0_dense_18 21 rfl h (fun r18 u18 hb18 h => ?_)
    refine jj_if_ne hX dX0_dense_21 29 24 (by decide) rfl (fun c21 => ?_) (fun c21 => ?_)
    · have h := h.1 c21
      refine jj_aload_n hX dX0_dense_29 0 rfl 30 rfl ?_
      refine xg0_10 hX hY k18 dX0_dense_30 q421 33 rfl ?_
      obtain ⟨b33, g33, h⟩ := h
      refine jj_st (st2 := [.ref b33, .ref x0]) (by rw [va_rf_some g33]) ?_
      obtain ⟨k33, h⟩ := h
      refine xgn4_2 hX hY k33 dX0_dense_33 nq319 36 rfl ?_
      obtain ⟨b36, g36, h⟩ := h
      refine jj_st (st2 := [.ref b36, .ref x0]) (by rw [va_rf_some g36]) ?_
      obtain ⟨k36, h⟩ := h
      refine xgn15_1 hX hY k36 dX0_dense_36 nq1003 39 rfl ?_
      obtain ⟨b39, g39, h⟩ := h
      refine jj_st (st2 := [.ref b39, .ref x0]) (by rw [va_rf_some g39]) ?_
      obtain ⟨n39, k39, h⟩ := h
      refine jx_alen hX hY.1 k39 dX0_dense_39 40 rfl ?_
      refine jj_iload_n hX dX0_dense_40 1 rfl 41 rfl ?_
      refine jj_icmp_ge hX dX0_dense_41 49 44 (by decide) rfl (fun c41 => ?_) (fun c41 => ?_)
      · have h := h.1 c41
        refine jj_iconst hX dX0_dense_49 ci_0 50 rfl ?_
        exact txw0_dense_B50 hX hY h
      · have h := h.2 c41
        refine jj_bipush hX dX0_dense_44 cb_7 46 rfl ?_
        refine jj_goto hX dX0_dense_46 50 (by decide) ?_
        exact txw0_dense_B50 hX hY h
    · have h := h.2 c21
      refine jj_bipush hX dX0_dense_24 cb_6 26 rfl ?_
      refine jj_goto hX dX0_dense_26 50 (by decide) ?_
      exact txw0_dense_B50 hX hY h
  · have h := h.2 c10
    refine jj_iconst hX dX0_dense_13 ci_1 14 rfl ?_
    refine jj_goto hX dX0_dense_14 50 (by decide) ?_
    exact txw0_dense_B50 hX hY h
theorem hd_xw0_dense : yX0_dense.cls ≠ "java/lang/invoke/MethodHandle" ∧ yX0_dense.cls ≠ "java/lang/invoke/VarHandle" ∧ (parseMethodDescriptor yX0_dense.desc).map (fun d => d.parameters.length) = some 1 := by decide +kernel
theorem kxw0_dense {X : JC} {A : Nat → Prop} {Q : State → Prop} {nL k n pc : Nat} {lv : List (Nat × Value)} {st : List Value} {own : String} {cc : ByteArray} {ret : Option FieldType} {F LL mc ms ix : Nat} {D : va_G} {dA aK aV : Nat → Nat} {K : XK} {u : XS} {x0 : Nat} {x1 : Int32} {Post : Int32 → XS → Prop} (hX : JX X own cc nL ret F LL mc ms) (hY : JY X D dA aK aV A) (h1a : K x0 = (1, 0)) (hlk : (Cond.methodLink own ix yX0_dense) ∈ lw_all) (hF : 1 + 1 ≤ F) (hL : 8 + (5 + 11) + 25 ≤ LL) (hk : k ≤ mc) (hk2 : n ≤ ms) (hw : (st.map fun v => v.category).sum ≤ 8) (d : decode cc pc = .ok (.invokevirtual ix, 3)) (q : Nat) (hq : pc + 3 = q) (h : xw0_dense x0 x1 K u  Post) (kk : ∀ (r : Int32) (u2 : XS), Post r u2 → JJ X A Q nL (XP D dA A K u2) k n q lv (.int r :: st)) : JJ X A Q nL (XP D dA A K u) k n pc lv (.int x1 :: .ref x0 :: st) :=
  jx_callVi (na := 1) (As := [.int x1]) hX hY jf0 h1a (fun sz => mxw0_dense (jj_l X) hY.2.2.2.2 D dA aK aV x0 x1 K u  Post h sz) hlk q1228 q1229 q120 q1230 ⟨rfl, hd_xw0_dense⟩ rfl rfl hw hF hL hk hk2 d q hq kk
theorem knxw0_dense {X : JC} {A : Nat → Prop} {Q : State → Prop} {nL k n pc : Nat} {lv : List (Nat × Value)} {st : List Value} {own : String} {cc : ByteArray} {ret : Option FieldType} {F LL mc ms ix : Nat} {D : va_G} {dA aK aV : Nat → Nat} {K : XK} {u : XS} {x0 : Nat} {x1 : Int32} {host : String} {Post : Int32 → XS → Prop} (hX : JX X own cc nL ret F LL mc ms) (hY : JY X D dA aK aV A) (h1a : K x0 = (1, 0)) (hlk : (Cond.methodLinkNest own ix yX0_dense host) ∈ jx_nest) (hF : 1 + 1 ≤ F) (hL : 8 + (5 + 11) + 25 ≤ LL) (hk : k ≤ mc) (hk2 : n ≤ ms) (hw : (st.map fun v => v.category).sum ≤ 8) (d : decode cc pc = .ok (.invokevirtual ix, 3)) (q : Nat) (hq : pc + 3 = q) (h : xw0_dense x0 x1 K u  Post) (kk : ∀ (r : Int32) (u2 : XS), Post r u2 → JJ X A Q nL (XP D dA A K u2) k n q lv (.int r :: st)) : JJ X A Q nL (XP D dA A K u) k n pc lv (.int x1 :: .ref x0 :: st) :=
  jx_callNi (na := 1) (As := [.int x1]) hX hY jf0 h1a (fun sz => mxw0_dense (jj_l X) hY.2.2.2.2 D dA aK aV x0 x1 K u  Post h sz) hlk q1228 q1229 q120 q1230 hd_xw0_dense rfl rfl hw hF hL hk hk2 d q hq kk
