set_option linter.unusedVariables false
def xw0_near_L65_S (Post : Int32 → XS → Prop) (K : XK) (x0 : Nat) (x1 : Int32) (x2 : Int32) (R : Int32 → Int32 → XS → Prop) (x3 : Int32) (x4 : Int32) (u : XS) : Prop :=
  K x0 = (1, 0) ∧
  xw0_at x0 x1 K u (fun r69 u69 =>
    xRule K r69 ∧
    ∃ b75, (xr u69 r69 1) = some b75 ∧
    ∃ n75, K b75 = (2, n75) ∧
    ((nI n75) ≤ x4 →
      Post x3 u69) ∧
    (¬ (nI n75) ≤ x4 →
      xw0_at x0 x1 K u69 (fun r82 u82 =>
        xRule K r82 ∧
        ∃ b90, (xr u82 r82 1) = some b90 ∧
        ∃ n90, K b90 = (2, n90) ∧
        vp_in x4 n90 ∧
        xw0_at x0 x2 K u82 (fun r93 u93 =>
          xRule K r93 ∧
          ∃ b101, (xr u93 r93 1) = some b101 ∧
          ∃ n101, K b101 = (2, n101) ∧
          vp_in x4 n101 ∧
          js_bitCount ((xi u82 b90 x4.toNatClampNeg) ^^^ (xi u93 b101 x4.toNatClampNeg)) (fun r103 =>
            ∀ v107 : Int32, v107 = (x3 + r103) →
            ∀ v108 : Int32, v108 = x4 + (1 : Int32) →
            R v107 v108 u93)))))
def xw0_near_L65 (Post : Int32 → XS → Prop) (K : XK) (x0 : Nat) (x1 : Int32) (x2 : Int32) : Nat → Int32 → Int32 → XS → Prop
  | 0 => fun _ _ _ => False
  | n + 1 => fun x3 x4 u => xw0_near_L65_S Post K x0 x1 x2 (xw0_near_L65 Post K x0 x1 x2 n) x3 x4 u
def xw0_near_B48 (Post : Int32 → XS → Prop) (K : XK) (x0 : Nat) (x1 : Int32) (x2 : Int32) (s0 : Int32) (s1 : Nat) (u : XS) : Prop :=
  K s1 = (1, 0) ∧
  ∀ u48 : XS, u48 = xsi u s1 7 s0 →
  K x0 = (1, 0) ∧
  ((xi u48 x0 7) ≤ 0 →
    ∃ n, xw0_near_L65 Post K x0 x1 x2 n (0 : Int32) (0 : Int32) u48) ∧
  (¬ (xi u48 x0 7) ≤ 0 →
    Post (-1 : Int32) u48)
/-- RaisedPress.near(II)I -/
def xw0_near (x0 : Nat) (x1 : Int32) (x2 : Int32) (K : XK) (u : XS) (Post : Int32 → XS → Prop) : Prop :=
  K x0 = (1, 0) ∧
  xw0_isRule x0 x1 K u (fun r3 u3 =>
    (r3 = 0 →
      xw0_near_B48 Post K x0 x1 x2 (1 : Int32) x0 u3) ∧
    (¬ r3 = 0 →
      xw0_isRule x0 x2 K u3 (fun r11 u11 =>
        (¬ r11 = 0 →
          xw0_at x0 x1 K u11 (fun r23 u23 =>
            xRule K r23 ∧
            ∃ b29, (xr u23 r23 1) = some b29 ∧
            ∃ n29, K b29 = (2, n29) ∧
            xw0_at x0 x2 K u23 (fun r32 u32 =>
              xRule K r32 ∧
              ∃ b38, (xr u32 r32 1) = some b38 ∧
              ∃ n38, K b38 = (2, n38) ∧
              ((nI n29) = (nI n38) →
                xw0_near_B48 Post K x0 x1 x2 (0 : Int32) x0 u32) ∧
              (¬ (nI n29) = (nI n38) →
                xw0_near_B48 Post K x0 x1 x2 (7 : Int32) x0 u32)))) ∧
        (r11 = 0 →
          xw0_near_B48 Post K x0 x1 x2 (1 : Int32) x0 u11))))
set_option maxHeartbeats 4000000 in
set_option maxRecDepth 100000 in
theorem txw0_near_L65 {X : JC} {D : va_G} {dA aK aV : Nat → Nat} {sz : Nat} {K : XK} {Post : Int32 → XS → Prop} {x0 : Nat} {x1 : Int32} {x2 : Int32} (hX : JX X yX0_near.cls cX0_near 5 (Option.some Jvm.ClassFile.FieldType.int) 2 46 0 0) (hY : JY X D dA aK aV (AX K sz)) : ∀ (n : Nat) (x3 : Int32) (x4 : Int32) (u : XS), xw0_near_L65 Post K x0 x1 x2 n x3 x4 u → JJ X (AX K sz) (jj_Q X (va_Qi (fun (r : Int32) (w : XS) => Post r w) (jx_B D dA K) (AX K sz)) 0 0 (AX K sz)) 5 (XP D dA (AX K sz) K u) 0 0 65 [(0, .ref x0), (1, .int x1), (2, .int x2), (3, .int x3), (4, .int x4)] [] := by
  intro n
  induction n with
  | zero =>
    intro x3 x4 u h
    exact h.elim
  | succ n ih =>
    intro x3 x4 u h
    have h : xw0_near_L65_S Post K x0 x1 x2 (xw0_near_L65 Post K x0 x1 x2 n) x3 x4 u := h
    unfold xw0_near_L65_S at h
    refine jj_iload hX dX0_near_65 4 rfl 67 rfl ?_
    refine jj_aload_n hX dX0_near_67 0 rfl 68 rfl ?_
    refine jj_iload_n hX dX0_near_68 1 rfl 69 rfl ?_
    obtain ⟨k69, h⟩ := h
    refine kxw0_at hX hY k69 q1090 (Nat.le_of_ble_eq_true rfl) (Nat.le_of_ble_eq_true rfl) (Nat.zero_le _) (Nat.zero_le _) (Nat.le_of_ble_eq_true rfl) dX0_near_69 72 rfl h (fun r69 u69 h => ?_)
    obtain ⟨k72, h⟩ := h
    refine xgr_1 hX hY k72 dX0_near_72 q777 75 rfl ?_
    obtain ⟨b75, g75, h⟩ := h
    refine jj_st (st2 := [.ref b75, .int x4]) (by rw [va_rf_some g75]) ?_
    obtain ⟨n75, k75, h⟩ := h
    refine jx_alen hX hY.1 k75 dX0_near_75 76 rfl ?_
    refine jj_icmp_ge hX dX0_near_76 114 79 (by decide) rfl (fun c76 => ?_) (fun c76 => ?_)
    · have h := h.1 c76
      refine jj_iload_n hX dX0_near_114 3 rfl 115 rfl ?_
      exact jj_reti (post := (fun (r : Int32) (w : XS) => Post r w)) (u := u69) hX dX0_near_115 (Nat.le_refl 0) (Nat.le_refl 0) jx_hB h
    · have h := h.2 c76
      refine jj_iload_n hX dX0_near_79 3 rfl 80 rfl ?_
      refine jj_aload_n hX dX0_near_80 0 rfl 81 rfl ?_
      refine jj_iload_n hX dX0_near_81 1 rfl 82 rfl ?_
      refine kxw0_at hX hY k69 q1090 (Nat.le_of_ble_eq_true rfl) (Nat.le_of_ble_eq_true rfl) (Nat.zero_le _) (Nat.zero_le _) (Nat.le_of_ble_eq_true rfl) dX0_near_82 85 rfl h (fun r82 u82 h => ?_)
      obtain ⟨k85, h⟩ := h
      refine xgr_1 hX hY k85 dX0_near_85 q777 88 rfl ?_
      refine jj_iload hX dX0_near_88 4 rfl 90 rfl ?_
      obtain ⟨b90, g90, h⟩ := h
      refine jj_st (st2 := [.int x4, .ref b90, .int x3]) (by rw [va_rf_some g90]) ?_
      obtain ⟨n90, k90, h⟩ := h
      obtain ⟨hi90, h⟩ := h
      refine jx_iald hX hY.1 k90 _ rfl hi90 dX0_near_90 91 rfl ?_
      refine jj_aload_n hX dX0_near_91 0 rfl 92 rfl ?_
      refine jj_iload_n hX dX0_near_92 2 rfl 93 rfl ?_
      refine kxw0_at hX hY k69 q1090 (Nat.le_of_ble_eq_true rfl) (Nat.le_of_ble_eq_true rfl) (Nat.zero_le _) (Nat.zero_le _) (Nat.le_of_ble_eq_true rfl) dX0_near_93 96 rfl h (fun r93 u93 h => ?_)
      obtain ⟨k96, h⟩ := h
      refine xgr_1 hX hY k96 dX0_near_96 q777 99 rfl ?_
      refine jj_iload hX dX0_near_99 4 rfl 101 rfl ?_
      obtain ⟨b101, g101, h⟩ := h
      refine jj_st (st2 := [.int x4, .ref b101, .int (xi u82 b90 x4.toNatClampNeg), .int x3]) (by rw [va_rf_some g101]) ?_
      obtain ⟨n101, k101, h⟩ := h
      obtain ⟨hi101, h⟩ := h
      refine jx_iald hX hY.1 k101 _ rfl hi101 dX0_near_101 102 rfl ?_
      refine jj_ixor hX dX0_near_102 103 rfl ?_
      refine kjs_bitCount hX XP.keeps q1181 (Nat.le_of_ble_eq_true rfl) (Nat.le_of_ble_eq_true rfl) (Nat.zero_le _) (Nat.zero_le _) (Nat.le_of_ble_eq_true rfl) dX0_near_103 106 rfl h (fun r103 h => ?_)
      refine jj_iadd hX dX0_near_106 107 rfl ?_
      refine jj_topi (fun v107 e107 => ?_)
      have h := h v107 e107
      refine jj_istore_n (lv2 := [(0, .ref x0), (1, .int x1), (2, .int x2), (3, .int v107), (4, .int x4)]) hX dX0_near_107 (Nat.le_of_ble_eq_true rfl) [1, 2, 3, 0, 4] rfl 108 rfl ?_
      obtain ⟨v108, e108⟩ : ∃ y : Int32, y = x4 + (1 : Int32) := ⟨_, rfl⟩
      have h := h v108 e108
      refine jj_iinc (v := v108) (lv2 := [(0, .ref x0), (1, .int x1), (2, .int x2), (3, .int v107), (4, .int v108)]) hX dX0_near_108 4 rfl (by rw [e108, ci_1]) (Nat.le_of_ble_eq_true rfl) [1, 2, 3, 4, 0] rfl 111 rfl ?_
      refine jj_goto hX dX0_near_111 65 (by decide) ?_
      exact ih _ _ _ h
set_option maxHeartbeats 4000000 in
set_option maxRecDepth 100000 in
theorem txw0_near_B48 {X : JC} {D : va_G} {dA aK aV : Nat → Nat} {sz : Nat} {K : XK} {Post : Int32 → XS → Prop} {x0 : Nat} {x1 : Int32} {x2 : Int32} {s0 : Int32} {s1 : Nat} {u : XS} (hX : JX X yX0_near.cls cX0_near 5 (Option.some Jvm.ClassFile.FieldType.int) 2 46 0 0) (hY : JY X D dA aK aV (AX K sz)) (h : xw0_near_B48 Post K x0 x1 x2 s0 s1 u) : JJ X (AX K sz) (jj_Q X (va_Qi (fun (r : Int32) (w : XS) => Post r w) (jx_B D dA K) (AX K sz)) 0 0 (AX K sz)) 5 (XP D dA (AX K sz) K u) 0 0 48 [(0, .ref x0), (1, .int x1), (2, .int x2)] [.int s0, .ref s1] := by
  unfold xw0_near_B48 at h
  obtain ⟨k48, h⟩ := h
  refine xp0_7 hX hY k48 dX0_near_48 q418 51 rfl (fun u48 e48 => ?_)
  have h := h u48 e48
  refine jj_aload_n hX dX0_near_51 0 rfl 52 rfl ?_
  obtain ⟨k52, h⟩ := h
  refine xg0_7 hX hY k52 dX0_near_52 q418 55 rfl ?_
  refine jj_if_le hX dX0_near_55 60 58 (by decide) rfl (fun c55 => ?_) (fun c55 => ?_)
  · have h := h.1 c55
    refine jj_iconst hX dX0_near_60 ci_0 61 rfl ?_
    refine jj_istore_n (lv2 := [(0, .ref x0), (1, .int x1), (2, .int x2), (3, .int (0 : Int32))]) hX dX0_near_61 (Nat.le_of_ble_eq_true rfl) [1, 2, 3, 0] rfl 62 rfl ?_
    refine jj_iconst hX dX0_near_62 ci_0 63 rfl ?_
    refine jj_istore (lv2 := [(0, .ref x0), (1, .int x1), (2, .int x2), (3, .int (0 : Int32)), (4, .int (0 : Int32))]) hX dX0_near_63 (Nat.le_of_ble_eq_true rfl) [1, 2, 3, 4, 0] rfl 65 rfl ?_
    obtain ⟨n9, h⟩ := h
    exact txw0_near_L65 hX hY n9 _ _ _ h
  · have h := h.2 c55
    refine jj_iconst hX dX0_near_58 ci_m1 59 rfl ?_
    exact jj_reti (post := (fun (r : Int32) (w : XS) => Post r w)) (u := u48) hX dX0_near_59 (Nat.le_refl 0) (Nat.le_refl 0) jx_hB h
set_option maxHeartbeats 4000000 in
set_option maxRecDepth 100000 in
theorem mxw0_near (l : Launch) (hfl : l.stackTraces = false) (D : va_G) (dA aK aV : Nat → Nat) (x0 : Nat) (x1 : Int32) (x2 : Int32) (K : XK) (u : XS) (Post : Int32 → XS → Prop) (h : xw0_near x0 x1 x2 K u Post) (sz : Nat) : Met l yX0_near (ws_ yX0_near cX0_near 5 (Option.some Jvm.ClassFile.FieldType.int)) (jx_rm 2 46 0 0) (jx_Pc D dA aK aV K u sz [.ref x0, .int x1, .int x2]) (va_Qi (fun (r : Int32) (w : XS) => Post r w) (jx_B D dA K) (AX K sz)) 0 0 (AX K sz) := by
  refine jx_start hfl [.ref x0, .int x1, .int x2] [(0, .ref x0), (1, .int x1), (2, .int x2)] (by decide) (Nat.le_of_ble_eq_true rfl) rfl (fun X hX hY hin => ?_)
  unfold xw0_near at h
  refine jj_aload_n hX dX0_near_0 0 rfl 1 rfl ?_
  refine jj_aload_n hX dX0_near_1 0 rfl 2 rfl ?_
  refine jj_iload_n hX dX0_near_2 1 rfl 3 rfl ?_
  obtain ⟨k3, h⟩ := h
  refine kxw0_isRule hX hY k3 q1085 (Nat.le_of_ble_eq_true rfl) (Nat.le_of_ble_eq_true rfl) (Nat.zero_le _) (Nat.zero_le _) (Nat.le_of_ble_eq_true rfl) dX0_near_3 6 rfl h (fun r3 u3 hb3 h => ?_)
  refine jj_if_eq hX dX0_near_6 17 9 (by decide) rfl (fun c6 => ?_) (fun c6 => ?_)
  · have h := h.1 c6
    refine jj_iconst hX dX0_near_17 ci_1 18 rfl ?_
    refine jj_goto hX dX0_near_18 48 (by decide) ?_
    exact txw0_near_B48 hX hY h
  · have h := h.2 c6
    refine jj_aload_n hX dX0_near_9 0 rfl 10 rfl ?_
    refine jj_iload_n hX dX0_near_10 2 rfl 11 rfl ?_
    refine kxw0_isRule hX hY k3 q1085 (Nat.le_of_ble_eq_true rfl) (Nat.le_of_ble_eq_true rfl) (Nat.zero_le _) (Nat.zero_le _) (Nat.le_of_ble_eq_true rfl) dX0_near_11 14 rfl h (fun r11 u11 hb11 h => ?_)
    refine jj_if_ne hX dX0_near_14 21 17 (by decide) rfl (fun c14 => ?_) (fun c14 => ?_)
    · have h := h.1 c14
      refine jj_aload_n hX dX0_near_21 0 rfl 22 rfl ?_
      refine jj_iload_n hX dX0_near_22 1 rfl 23 rfl ?_
      refine kxw0_at hX hY k3 q1090 (Nat.le_of_ble_eq_true rfl) (Nat.le_of_ble_eq_true rfl) (Nat.zero_le _) (Nat.zero_le _) (Nat.le_of_ble_eq_true rfl) dX0_near_23 26 rfl h (fun r23 u23 h => ?_)
      obtain ⟨k26, h⟩ := h
      refine xgr_1 hX hY k26 dX0_near_26 q777 29 rfl ?_
      obtain ⟨b29, g29, h⟩ := h
      refine jj_st (st2 := [.ref b29, .ref x0]) (by rw [va_rf_some g29]) ?_
      obtain ⟨n29, k29, h⟩ := h
      refine jx_alen hX hY.1 k29 dX0_near_29 30 rfl ?_
      refine jj_aload_n hX dX0_near_30 0 rfl 31 rfl ?_
      refine jj_iload_n hX dX0_near_31 2 rfl 32 rfl ?_
      refine kxw0_at hX hY k3 q1090 (Nat.le_of_ble_eq_true rfl) (Nat.le_of_ble_eq_true rfl) (Nat.zero_le _) (Nat.zero_le _) (Nat.le_of_ble_eq_true rfl) dX0_near_32 35 rfl h (fun r32 u32 h => ?_)
      obtain ⟨k35, h⟩ := h
      refine xgr_1 hX hY k35 dX0_near_35 q777 38 rfl ?_
      obtain ⟨b38, g38, h⟩ := h
      refine jj_st (st2 := [.ref b38, .int (nI n29), .ref x0]) (by rw [va_rf_some g38]) ?_
      obtain ⟨n38, k38, h⟩ := h
      refine jx_alen hX hY.1 k38 dX0_near_38 39 rfl ?_
      refine jj_icmp_eq hX dX0_near_39 47 42 (by decide) rfl (fun c39 => ?_) (fun c39 => ?_)
      · have h := h.1 c39
        refine jj_iconst hX dX0_near_47 ci_0 48 rfl ?_
        exact txw0_near_B48 hX hY h
      · have h := h.2 c39
        refine jj_bipush hX dX0_near_42 cb_7 44 rfl ?_
        refine jj_goto hX dX0_near_44 48 (by decide) ?_
        exact txw0_near_B48 hX hY h
    · have h := h.2 c14
      refine jj_iconst hX dX0_near_17 ci_1 18 rfl ?_
      refine jj_goto hX dX0_near_18 48 (by decide) ?_
      exact txw0_near_B48 hX hY h
theorem hd_xw0_near : yX0_near.cls ≠ "java/lang/invoke/MethodHandle" ∧ yX0_near.cls ≠ "java/lang/invoke/VarHandle" ∧ (parseMethodDescriptor yX0_near.desc).map (fun d => d.parameters.length) = some 2 := by decide +kernel
theorem kxw0_near {X : JC} {A : Nat → Prop} {Q : State → Prop} {nL k n pc : Nat} {lv : List (Nat × Value)} {st : List Value} {own : String} {cc : ByteArray} {ret : Option FieldType} {F LL mc ms ix : Nat} {D : va_G} {dA aK aV : Nat → Nat} {K : XK} {u : XS} {x0 : Nat} {x1 : Int32} {x2 : Int32} {Post : Int32 → XS → Prop} (hX : JX X own cc nL ret F LL mc ms) (hY : JY X D dA aK aV A) (h1a : K x0 = (1, 0)) (hlk : (Cond.methodLink own ix yX0_near) ∈ lw_all) (hF : 2 + 1 ≤ F) (hL : 8 + (5 + 11) + 46 ≤ LL) (hk : k ≤ mc) (hk2 : n ≤ ms) (hw : (st.map fun v => v.category).sum ≤ 8) (d : decode cc pc = .ok (.invokevirtual ix, 3)) (q : Nat) (hq : pc + 3 = q) (h : xw0_near x0 x1 x2 K u  Post) (kk : ∀ (r : Int32) (u2 : XS), Post r u2 → JJ X A Q nL (XP D dA A K u2) k n q lv (.int r :: st)) : JJ X A Q nL (XP D dA A K u) k n pc lv (.int x2 :: .int x1 :: .ref x0 :: st) :=
  jx_callVi (na := 2) (As := [.int x1, .int x2]) hX hY jf0 h1a (fun sz => mxw0_near (jj_l X) hY.2.2.2.2 D dA aK aV x0 x1 x2 K u  Post h sz) hlk q1380 q1381 q120 q1382 ⟨rfl, hd_xw0_near⟩ rfl rfl hw hF hL hk hk2 d q hq kk
theorem knxw0_near {X : JC} {A : Nat → Prop} {Q : State → Prop} {nL k n pc : Nat} {lv : List (Nat × Value)} {st : List Value} {own : String} {cc : ByteArray} {ret : Option FieldType} {F LL mc ms ix : Nat} {D : va_G} {dA aK aV : Nat → Nat} {K : XK} {u : XS} {x0 : Nat} {x1 : Int32} {x2 : Int32} {host : String} {Post : Int32 → XS → Prop} (hX : JX X own cc nL ret F LL mc ms) (hY : JY X D dA aK aV A) (h1a : K x0 = (1, 0)) (hlk : (Cond.methodLinkNest own ix yX0_near host) ∈ jx_nest) (hF : 2 + 1 ≤ F) (hL : 8 + (5 + 11) + 46 ≤ LL) (hk : k ≤ mc) (hk2 : n ≤ ms) (hw : (st.map fun v => v.category).sum ≤ 8) (d : decode cc pc = .ok (.invokevirtual ix, 3)) (q : Nat) (hq : pc + 3 = q) (h : xw0_near x0 x1 x2 K u  Post) (kk : ∀ (r : Int32) (u2 : XS), Post r u2 → JJ X A Q nL (XP D dA A K u2) k n q lv (.int r :: st)) : JJ X A Q nL (XP D dA A K u) k n pc lv (.int x2 :: .int x1 :: .ref x0 :: st) :=
  jx_callNi (na := 2) (As := [.int x1, .int x2]) hX hY jf0 h1a (fun sz => mxw0_near (jj_l X) hY.2.2.2.2 D dA aK aV x0 x1 x2 K u  Post h sz) hlk q1380 q1381 q120 q1382 hd_xw0_near rfl rfl hw hF hL hk hk2 d q hq kk
def xw9_isAhead_L22_S (Post : Int32 → XS → Prop) (K : XK) (x0 : Nat) (x1 : Int32) (x2 : Nat) (x3 : Int32) (R : Int32 → XS → Prop) (x4 : Int32) (u : XS) : Prop :=
  xRule K x0 ∧
  ∃ b28, (xr u x0 1) = some b28 ∧
  ∃ n28, K b28 = (2, n28) ∧
  ((nI n28) ≤ x4 →
    Post (1 : Int32) u) ∧
  (¬ (nI n28) ≤ x4 →
    ∃ b38, (xr u x0 1) = some b38 ∧
    ∃ n38, K b38 = (2, n38) ∧
    vp_in x4 n38 ∧
    xRule K x2 ∧
    ∃ b49, (xr u x2 1) = some b49 ∧
    ∃ n49, K b49 = (2, n49) ∧
    vp_in ((x3 + x4) - x1) n49 ∧
    ((xi u b38 x4.toNatClampNeg) = (xi u b49 ((x3 + x4) - x1).toNatClampNeg) →
      ∀ v55 : Int32, v55 = x4 + (1 : Int32) →
      R v55 u) ∧
    (¬ (xi u b38 x4.toNatClampNeg) = (xi u b49 ((x3 + x4) - x1).toNatClampNeg) →
      Post (0 : Int32) u))
def xw9_isAhead_L22 (Post : Int32 → XS → Prop) (K : XK) (x0 : Nat) (x1 : Int32) (x2 : Nat) (x3 : Int32) : Nat → Int32 → XS → Prop
  | 0 => fun _ _ => False
  | n + 1 => fun x4 u => xw9_isAhead_L22_S Post K x0 x1 x2 x3 (xw9_isAhead_L22 Post K x0 x1 x2 x3 n) x4 u
/-- RaisedPress$Rule.isAhead(ILRaisedPress$Rule;I)Z -/
def xw9_isAhead (x0 : Nat) (x1 : Int32) (x2 : Nat) (x3 : Int32) (K : XK) (u : XS) (Post : Int32 → XS → Prop) : Prop :=
  xRule K x0 ∧
  ∃ b4, (xr u x0 1) = some b4 ∧
  ∃ n4, K b4 = (2, n4) ∧
  xRule K x2 ∧
  ∃ b11, (xr u x2 1) = some b11 ∧
  ∃ n11, K b11 = (2, n11) ∧
  (((nI n4) - x1) ≤ ((nI n11) - x3) →
    ∃ n, xw9_isAhead_L22 Post K x0 x1 x2 x3 n x1 u) ∧
  (¬ ((nI n4) - x1) ≤ ((nI n11) - x3) →
    Post (0 : Int32) u)
set_option maxHeartbeats 4000000 in
set_option maxRecDepth 100000 in
theorem txw9_isAhead_L22 {X : JC} {D : va_G} {dA aK aV : Nat → Nat} {sz : Nat} {K : XK} {Post : Int32 → XS → Prop} {x0 : Nat} {x1 : Int32} {x2 : Nat} {x3 : Int32} (hX : JX X yX9_isAhead.cls cX9_isAhead 5 (Option.some Jvm.ClassFile.FieldType.boolean) 0 0 0 0) (hY : JY X D dA aK aV (AX K sz)) : ∀ (n : Nat) (x4 : Int32) (u : XS), xw9_isAhead_L22 Post K x0 x1 x2 x3 n x4 u → JJ X (AX K sz) (jj_Q X (va_Qi (fun (r : Int32) (w : XS) => Post r w ∧ jj_z r) (jx_B D dA K) (AX K sz)) 0 0 (AX K sz)) 5 (XP D dA (AX K sz) K u) 0 0 22 [(0, .ref x0), (1, .int x1), (2, .ref x2), (3, .int x3), (4, .int x4)] [] := by
  intro n
  induction n with
  | zero =>
    intro x4 u h
    exact h.elim
  | succ n ih =>
    intro x4 u h
    have h : xw9_isAhead_L22_S Post K x0 x1 x2 x3 (xw9_isAhead_L22 Post K x0 x1 x2 x3 n) x4 u := h
    unfold xw9_isAhead_L22_S at h
    refine jj_iload hX dX9_isAhead_22 4 rfl 24 rfl ?_
    refine jj_aload_n hX dX9_isAhead_24 0 rfl 25 rfl ?_
    obtain ⟨k25, h⟩ := h
    refine xgr_1 hX hY k25 dX9_isAhead_25 q775 28 rfl ?_
    obtain ⟨b28, g28, h⟩ := h
    refine jj_st (st2 := [.ref b28, .int x4]) (by rw [va_rf_some g28]) ?_
    obtain ⟨n28, k28, h⟩ := h
    refine jx_alen hX hY.1 k28 dX9_isAhead_28 29 rfl ?_
    refine jj_icmp_ge hX dX9_isAhead_29 61 32 (by decide) rfl (fun c29 => ?_) (fun c29 => ?_)
    · have h := h.1 c29
      refine jj_iconst hX dX9_isAhead_61 ci_1 62 rfl ?_
      exact jj_retz (post := (fun (r : Int32) (w : XS) => Post r w)) (u := u) hX dX9_isAhead_62 (Nat.le_refl 0) (Nat.le_refl 0) jx_hB jj_z1 h
    · have h := h.2 c29
      refine jj_aload_n hX dX9_isAhead_32 0 rfl 33 rfl ?_
      refine xgr_1 hX hY k25 dX9_isAhead_33 q775 36 rfl ?_
      refine jj_iload hX dX9_isAhead_36 4 rfl 38 rfl ?_
      obtain ⟨b38, g38, h⟩ := h
      refine jj_st (st2 := [.int x4, .ref b38]) (by rw [va_rf_some g38]) ?_
      obtain ⟨n38, k38, h⟩ := h
      obtain ⟨hi38, h⟩ := h
      refine jx_iald hX hY.1 k38 _ rfl hi38 dX9_isAhead_38 39 rfl ?_
      refine jj_aload_n hX dX9_isAhead_39 2 rfl 40 rfl ?_
      obtain ⟨k40, h⟩ := h
      refine xgr_1 hX hY k40 dX9_isAhead_40 q775 43 rfl ?_
      refine jj_iload_n hX dX9_isAhead_43 3 rfl 44 rfl ?_
      refine jj_iload hX dX9_isAhead_44 4 rfl 46 rfl ?_
      refine jj_iadd hX dX9_isAhead_46 47 rfl ?_
      refine jj_iload_n hX dX9_isAhead_47 1 rfl 48 rfl ?_
      refine jj_isub hX dX9_isAhead_48 49 rfl ?_
      obtain ⟨b49, g49, h⟩ := h
      refine jj_st (st2 := [.int ((x3 + x4) - x1), .ref b49, .int (xi u b38 x4.toNatClampNeg)]) (by rw [va_rf_some g49]) ?_
      obtain ⟨n49, k49, h⟩ := h
      obtain ⟨hi49, h⟩ := h
      refine jx_iald hX hY.1 k49 _ rfl hi49 dX9_isAhead_49 50 rfl ?_
      refine jj_icmp_eq hX dX9_isAhead_50 55 53 (by decide) rfl (fun c50 => ?_) (fun c50 => ?_)
      · have h := h.1 c50
        obtain ⟨v55, e55⟩ : ∃ y : Int32, y = x4 + (1 : Int32) := ⟨_, rfl⟩
        have h := h v55 e55
        refine jj_iinc (v := v55) (lv2 := [(0, .ref x0), (1, .int x1), (2, .ref x2), (3, .int x3), (4, .int v55)]) hX dX9_isAhead_55 4 rfl (by rw [e55, ci_1]) (Nat.le_of_ble_eq_true rfl) [1, 2, 3, 4, 0] rfl 58 rfl ?_
        refine jj_goto hX dX9_isAhead_58 22 (by decide) ?_
        exact ih _ _ h
      · have h := h.2 c50
        refine jj_iconst hX dX9_isAhead_53 ci_0 54 rfl ?_
        exact jj_retz (post := (fun (r : Int32) (w : XS) => Post r w)) (u := u) hX dX9_isAhead_54 (Nat.le_refl 0) (Nat.le_refl 0) jx_hB jj_z0 h
set_option maxHeartbeats 4000000 in
set_option maxRecDepth 100000 in
theorem mxw9_isAhead (l : Launch) (hfl : l.stackTraces = false) (D : va_G) (dA aK aV : Nat → Nat) (x0 : Nat) (x1 : Int32) (x2 : Nat) (x3 : Int32) (K : XK) (u : XS) (Post : Int32 → XS → Prop) (h : xw9_isAhead x0 x1 x2 x3 K u Post) (sz : Nat) : Met l yX9_isAhead (ws_ yX9_isAhead cX9_isAhead 5 (Option.some Jvm.ClassFile.FieldType.boolean)) (jx_rm 0 0 0 0) (jx_Pc D dA aK aV K u sz [.ref x0, .int x1, .ref x2, .int x3]) (va_Qi (fun (r : Int32) (w : XS) => Post r w ∧ jj_z r) (jx_B D dA K) (AX K sz)) 0 0 (AX K sz) := by
  refine jx_start hfl [.ref x0, .int x1, .ref x2, .int x3] [(0, .ref x0), (1, .int x1), (2, .ref x2), (3, .int x3)] (by decide) (Nat.le_of_ble_eq_true rfl) rfl (fun X hX hY hin => ?_)
  unfold xw9_isAhead at h
  refine jj_aload_n hX dX9_isAhead_0 0 rfl 1 rfl ?_
  obtain ⟨k1, h⟩ := h
  refine xgr_1 hX hY k1 dX9_isAhead_1 q775 4 rfl ?_
  obtain ⟨b4, g4, h⟩ := h
  refine jj_st (st2 := [.ref b4]) (by rw [va_rf_some g4]) ?_
  obtain ⟨n4, k4, h⟩ := h
  refine jx_alen hX hY.1 k4 dX9_isAhead_4 5 rfl ?_
  refine jj_iload_n hX dX9_isAhead_5 1 rfl 6 rfl ?_
  refine jj_isub hX dX9_isAhead_6 7 rfl ?_
  refine jj_aload_n hX dX9_isAhead_7 2 rfl 8 rfl ?_
  obtain ⟨k8, h⟩ := h
  refine xgr_1 hX hY k8 dX9_isAhead_8 q775 11 rfl ?_
  obtain ⟨b11, g11, h⟩ := h
  refine jj_st (st2 := [.ref b11, .int ((nI n4) - x1)]) (by rw [va_rf_some g11]) ?_
  obtain ⟨n11, k11, h⟩ := h
  refine jx_alen hX hY.1 k11 dX9_isAhead_11 12 rfl ?_
  refine jj_iload_n hX dX9_isAhead_12 3 rfl 13 rfl ?_
  refine jj_isub hX dX9_isAhead_13 14 rfl ?_
  refine jj_icmp_le hX dX9_isAhead_14 19 17 (by decide) rfl (fun c14 => ?_) (fun c14 => ?_)
  · have h := h.1 c14
    refine jj_iload_n hX dX9_isAhead_19 1 rfl 20 rfl ?_
    refine jj_istore (lv2 := [(0, .ref x0), (1, .int x1), (2, .ref x2), (3, .int x3), (4, .int x1)]) hX dX9_isAhead_20 (Nat.le_of_ble_eq_true rfl) [1, 2, 3, 4, 0] rfl 22 rfl ?_
    obtain ⟨n9, h⟩ := h
    exact txw9_isAhead_L22 hX hY n9 _ _ h
  · have h := h.2 c14
    refine jj_iconst hX dX9_isAhead_17 ci_0 18 rfl ?_
    exact jj_retz (post := (fun (r : Int32) (w : XS) => Post r w)) (u := u) hX dX9_isAhead_18 (Nat.le_refl 0) (Nat.le_refl 0) jx_hB jj_z0 h
theorem hd_xw9_isAhead : yX9_isAhead.cls ≠ "java/lang/invoke/MethodHandle" ∧ yX9_isAhead.cls ≠ "java/lang/invoke/VarHandle" ∧ (parseMethodDescriptor yX9_isAhead.desc).map (fun d => d.parameters.length) = some 3 := by decide +kernel
theorem kxw9_isAhead {X : JC} {A : Nat → Prop} {Q : State → Prop} {nL k n pc : Nat} {lv : List (Nat × Value)} {st : List Value} {own : String} {cc : ByteArray} {ret : Option FieldType} {F LL mc ms ix : Nat} {D : va_G} {dA aK aV : Nat → Nat} {K : XK} {u : XS} {x0 : Nat} {x1 : Int32} {x2 : Nat} {x3 : Int32} {Post : Int32 → XS → Prop} (hX : JX X own cc nL ret F LL mc ms) (hY : JY X D dA aK aV A) (hr : xRule K x0) (hlk : (Cond.methodLink own ix yX9_isAhead) ∈ lw_all) (hF : 0 + 1 ≤ F) (hL : 8 + (5 + 11) + 0 ≤ LL) (hk : k ≤ mc) (hk2 : n ≤ ms) (hw : (st.map fun v => v.category).sum ≤ 8) (d : decode cc pc = .ok (.invokevirtual ix, 3)) (q : Nat) (hq : pc + 3 = q) (h : xw9_isAhead x0 x1 x2 x3 K u  Post) (kk : ∀ (r : Int32) (u2 : XS), jj_z r → Post r u2 → JJ X A Q nL (XP D dA A K u2) k n q lv (.int r :: st)) : JJ X A Q nL (XP D dA A K u) k n pc lv (.int x3 :: .ref x2 :: .int x1 :: .ref x0 :: st) := by
  obtain ⟨c, c1, c2, h1a⟩ := hr
  rcases (show c = 10 ∨ c = 11 ∨ c = 12 ∨ c = 13 ∨ c = 14 by omega) with rfl | rfl | rfl | rfl | rfl
  · exact jx_callUz (na := 3) (As := [.int x1, .ref x2, .int x3]) (C := RX10) hX hY jf10 h1a (fun sz => mxw9_isAhead (jj_l X) hY.2.2.2.2 D dA aK aV x0 x1 x2 x3 K u  Post h sz) (va_cwU 3 hX.2.2.2.2.1 (lw_U hlk q1389 q1392 q1388 q140 q1395) rfl rfl rfl rfl hd_xw9_isAhead ⟨by rw [hX.2.2.2.2.2.2.2.1]; exact hF, by rw [hX.2.2.2.2.2.2.2.2.1]; exact hL⟩) rfl rfl hw hk hk2 d q hq kk
  · exact jx_callUz (na := 3) (As := [.int x1, .ref x2, .int x3]) (C := RX11) hX hY jf11 h1a (fun sz => mxw9_isAhead (jj_l X) hY.2.2.2.2 D dA aK aV x0 x1 x2 x3 K u  Post h sz) (va_cwU 3 hX.2.2.2.2.1 (lw_U hlk q1389 q1394 q1388 q140 q1395) rfl rfl rfl rfl hd_xw9_isAhead ⟨by rw [hX.2.2.2.2.2.2.2.1]; exact hF, by rw [hX.2.2.2.2.2.2.2.2.1]; exact hL⟩) rfl rfl hw hk hk2 d q hq kk
  · exact jx_callUz (na := 3) (As := [.int x1, .ref x2, .int x3]) (C := RX12) hX hY jf12 h1a (fun sz => mxw9_isAhead (jj_l X) hY.2.2.2.2 D dA aK aV x0 x1 x2 x3 K u  Post h sz) (va_cwU 3 hX.2.2.2.2.1 (lw_U hlk q1389 q1393 q1388 q140 q1395) rfl rfl rfl rfl hd_xw9_isAhead ⟨by rw [hX.2.2.2.2.2.2.2.1]; exact hF, by rw [hX.2.2.2.2.2.2.2.2.1]; exact hL⟩) rfl rfl hw hk hk2 d q hq kk
  · exact jx_callUz (na := 3) (As := [.int x1, .ref x2, .int x3]) (C := RX13) hX hY jf13 h1a (fun sz => mxw9_isAhead (jj_l X) hY.2.2.2.2 D dA aK aV x0 x1 x2 x3 K u  Post h sz) (va_cwU 3 hX.2.2.2.2.1 (lw_U hlk q1389 q1390 q1388 q140 q1395) rfl rfl rfl rfl hd_xw9_isAhead ⟨by rw [hX.2.2.2.2.2.2.2.1]; exact hF, by rw [hX.2.2.2.2.2.2.2.2.1]; exact hL⟩) rfl rfl hw hk hk2 d q hq kk
  · exact jx_callUz (na := 3) (As := [.int x1, .ref x2, .int x3]) (C := RX14) hX hY jf14 h1a (fun sz => mxw9_isAhead (jj_l X) hY.2.2.2.2 D dA aK aV x0 x1 x2 x3 K u  Post h sz) (va_cwU 3 hX.2.2.2.2.1 (lw_U hlk q1389 q1391 q1388 q140 q1395) rfl rfl rfl rfl hd_xw9_isAhead ⟨by rw [hX.2.2.2.2.2.2.2.1]; exact hF, by rw [hX.2.2.2.2.2.2.2.2.1]; exact hL⟩) rfl rfl hw hk hk2 d q hq kk
def xw0_clash_B22 (Post : Int32 → XS → Prop) (K : XK) (x0 : Nat) (x1 : Int32) (x2 : Int32) (s0 : Int32) (s1 : Nat) (u : XS) : Prop :=
  K s1 = (1, 0) ∧
  ∀ u22 : XS, u22 = xsi u s1 7 s0 →
  K x0 = (1, 0) ∧
  ((xi u22 x0 7) ≤ 0 →
    xw0_at x0 x1 K u22 (fun r38 u38 =>
      xw0_at x0 x2 K u38 (fun r44 u44 =>
        xRule K r38 ∧
        xw9_isAhead r38 (0 : Int32) r44 (0 : Int32) K u44 (fun r48 u48 =>
          (r48 = 0 →
            Post (0 : Int32) u48) ∧
          (¬ r48 = 0 →
            Post (1 : Int32) u48))))) ∧
  (¬ (xi u22 x0 7) ≤ 0 →
    Post (-1 : Int32) u22)
/-- RaisedPress.clash(II)I -/
def xw0_clash (x0 : Nat) (x1 : Int32) (x2 : Int32) (K : XK) (u : XS) (Post : Int32 → XS → Prop) : Prop :=
  K x0 = (1, 0) ∧
  xw0_isRule x0 x1 K u (fun r3 u3 =>
    (r3 = 0 →
      xw0_clash_B22 Post K x0 x1 x2 (1 : Int32) x0 u3) ∧
    (¬ r3 = 0 →
      xw0_isRule x0 x2 K u3 (fun r11 u11 =>
        (r11 = 0 →
          xw0_clash_B22 Post K x0 x1 x2 (1 : Int32) x0 u11) ∧
        (¬ r11 = 0 →
          xw0_clash_B22 Post K x0 x1 x2 (0 : Int32) x0 u11))))
set_option maxHeartbeats 4000000 in
set_option maxRecDepth 100000 in
theorem txw0_clash_B22 {X : JC} {D : va_G} {dA aK aV : Nat → Nat} {sz : Nat} {K : XK} {Post : Int32 → XS → Prop} {x0 : Nat} {x1 : Int32} {x2 : Int32} {s0 : Int32} {s1 : Nat} {u : XS} (hX : JX X yX0_clash.cls cX0_clash 3 (Option.some Jvm.ClassFile.FieldType.int) 2 46 0 0) (hY : JY X D dA aK aV (AX K sz)) (h : xw0_clash_B22 Post K x0 x1 x2 s0 s1 u) : JJ X (AX K sz) (jj_Q X (va_Qi (fun (r : Int32) (w : XS) => Post r w) (jx_B D dA K) (AX K sz)) 0 0 (AX K sz)) 3 (XP D dA (AX K sz) K u) 0 0 22 [(0, .ref x0), (1, .int x1), (2, .int x2)] [.int s0, .ref s1] := by
  unfold xw0_clash_B22 at h
  obtain ⟨k22, h⟩ := h
  refine xp0_7 hX hY k22 dX0_clash_22 q418 25 rfl (fun u22 e22 => ?_)
  have h := h u22 e22
  refine jj_aload_n hX dX0_clash_25 0 rfl 26 rfl ?_
  obtain ⟨k26, h⟩ := h
  refine xg0_7 hX hY k26 dX0_clash_26 q418 29 rfl ?_
  refine jj_if_le hX dX0_clash_29 36 32 (by decide) rfl (fun c29 => ?_) (fun c29 => ?_)
  · have h := h.1 c29
    refine jj_aload_n hX dX0_clash_36 0 rfl 37 rfl ?_
    refine jj_iload_n hX dX0_clash_37 1 rfl 38 rfl ?_
    refine kxw0_at hX hY k26 q1090 (Nat.le_of_ble_eq_true rfl) (Nat.le_of_ble_eq_true rfl) (Nat.zero_le _) (Nat.zero_le _) (Nat.le_of_ble_eq_true rfl) dX0_clash_38 41 rfl h (fun r38 u38 h => ?_)
    refine jj_iconst hX dX0_clash_41 ci_0 42 rfl ?_
    refine jj_aload_n hX dX0_clash_42 0 rfl 43 rfl ?_
    refine jj_iload_n hX dX0_clash_43 2 rfl 44 rfl ?_
    refine kxw0_at hX hY k26 q1090 (Nat.le_of_ble_eq_true rfl) (Nat.le_of_ble_eq_true rfl) (Nat.zero_le _) (Nat.zero_le _) (Nat.le_of_ble_eq_true rfl) dX0_clash_44 47 rfl h (fun r44 u44 h => ?_)
    refine jj_iconst hX dX0_clash_47 ci_0 48 rfl ?_
    obtain ⟨k48, h⟩ := h
    refine kxw9_isAhead hX hY k48 q1387 (Nat.le_of_ble_eq_true rfl) (Nat.le_of_ble_eq_true rfl) (Nat.zero_le _) (Nat.zero_le _) (Nat.le_of_ble_eq_true rfl) dX0_clash_48 51 rfl h (fun r48 u48 hb48 h => ?_)
    refine jj_if_eq hX dX0_clash_51 58 54 (by decide) rfl (fun c51 => ?_) (fun c51 => ?_)
    · have h := h.1 c51
      refine jj_iconst hX dX0_clash_58 ci_0 59 rfl ?_
      exact jj_reti (post := (fun (r : Int32) (w : XS) => Post r w)) (u := u48) hX dX0_clash_59 (Nat.le_refl 0) (Nat.le_refl 0) jx_hB h
    · have h := h.2 c51
      refine jj_iconst hX dX0_clash_54 ci_1 55 rfl ?_
      refine jj_goto hX dX0_clash_55 59 (by decide) ?_
      exact jj_reti (post := (fun (r : Int32) (w : XS) => Post r w)) (u := u48) hX dX0_clash_59 (Nat.le_refl 0) (Nat.le_refl 0) jx_hB h
  · have h := h.2 c29
    refine jj_iconst hX dX0_clash_32 ci_m1 33 rfl ?_
    refine jj_goto hX dX0_clash_33 59 (by decide) ?_
    exact jj_reti (post := (fun (r : Int32) (w : XS) => Post r w)) (u := u22) hX dX0_clash_59 (Nat.le_refl 0) (Nat.le_refl 0) jx_hB h
set_option maxHeartbeats 4000000 in
set_option maxRecDepth 100000 in
theorem mxw0_clash (l : Launch) (hfl : l.stackTraces = false) (D : va_G) (dA aK aV : Nat → Nat) (x0 : Nat) (x1 : Int32) (x2 : Int32) (K : XK) (u : XS) (Post : Int32 → XS → Prop) (h : xw0_clash x0 x1 x2 K u Post) (sz : Nat) : Met l yX0_clash (ws_ yX0_clash cX0_clash 3 (Option.some Jvm.ClassFile.FieldType.int)) (jx_rm 2 46 0 0) (jx_Pc D dA aK aV K u sz [.ref x0, .int x1, .int x2]) (va_Qi (fun (r : Int32) (w : XS) => Post r w) (jx_B D dA K) (AX K sz)) 0 0 (AX K sz) := by
  refine jx_start hfl [.ref x0, .int x1, .int x2] [(0, .ref x0), (1, .int x1), (2, .int x2)] (by decide) (Nat.le_of_ble_eq_true rfl) rfl (fun X hX hY hin => ?_)
  unfold xw0_clash at h
  refine jj_aload_n hX dX0_clash_0 0 rfl 1 rfl ?_
  refine jj_aload_n hX dX0_clash_1 0 rfl 2 rfl ?_
  refine jj_iload_n hX dX0_clash_2 1 rfl 3 rfl ?_
  obtain ⟨k3, h⟩ := h
  refine kxw0_isRule hX hY k3 q1085 (Nat.le_of_ble_eq_true rfl) (Nat.le_of_ble_eq_true rfl) (Nat.zero_le _) (Nat.zero_le _) (Nat.le_of_ble_eq_true rfl) dX0_clash_3 6 rfl h (fun r3 u3 hb3 h => ?_)
  refine jj_if_eq hX dX0_clash_6 21 9 (by decide) rfl (fun c6 => ?_) (fun c6 => ?_)
  · have h := h.1 c6
    refine jj_iconst hX dX0_clash_21 ci_1 22 rfl ?_
    exact txw0_clash_B22 hX hY h
  · have h := h.2 c6
    refine jj_aload_n hX dX0_clash_9 0 rfl 10 rfl ?_
    refine jj_iload_n hX dX0_clash_10 2 rfl 11 rfl ?_
    refine kxw0_isRule hX hY k3 q1085 (Nat.le_of_ble_eq_true rfl) (Nat.le_of_ble_eq_true rfl) (Nat.zero_le _) (Nat.zero_le _) (Nat.le_of_ble_eq_true rfl) dX0_clash_11 14 rfl h (fun r11 u11 hb11 h => ?_)
    refine jj_if_eq hX dX0_clash_14 21 17 (by decide) rfl (fun c14 => ?_) (fun c14 => ?_)
    · have h := h.1 c14
      refine jj_iconst hX dX0_clash_21 ci_1 22 rfl ?_
      exact txw0_clash_B22 hX hY h
    · have h := h.2 c14
      refine jj_iconst hX dX0_clash_17 ci_0 18 rfl ?_
      refine jj_goto hX dX0_clash_18 22 (by decide) ?_
      exact txw0_clash_B22 hX hY h
theorem hd_xw0_clash : yX0_clash.cls ≠ "java/lang/invoke/MethodHandle" ∧ yX0_clash.cls ≠ "java/lang/invoke/VarHandle" ∧ (parseMethodDescriptor yX0_clash.desc).map (fun d => d.parameters.length) = some 2 := by decide +kernel
theorem kxw0_clash {X : JC} {A : Nat → Prop} {Q : State → Prop} {nL k n pc : Nat} {lv : List (Nat × Value)} {st : List Value} {own : String} {cc : ByteArray} {ret : Option FieldType} {F LL mc ms ix : Nat} {D : va_G} {dA aK aV : Nat → Nat} {K : XK} {u : XS} {x0 : Nat} {x1 : Int32} {x2 : Int32} {Post : Int32 → XS → Prop} (hX : JX X own cc nL ret F LL mc ms) (hY : JY X D dA aK aV A) (h1a : K x0 = (1, 0)) (hlk : (Cond.methodLink own ix yX0_clash) ∈ lw_all) (hF : 2 + 1 ≤ F) (hL : 8 + (3 + 11) + 46 ≤ LL) (hk : k ≤ mc) (hk2 : n ≤ ms) (hw : (st.map fun v => v.category).sum ≤ 8) (d : decode cc pc = .ok (.invokevirtual ix, 3)) (q : Nat) (hq : pc + 3 = q) (h : xw0_clash x0 x1 x2 K u  Post) (kk : ∀ (r : Int32) (u2 : XS), Post r u2 → JJ X A Q nL (XP D dA A K u2) k n q lv (.int r :: st)) : JJ X A Q nL (XP D dA A K u) k n pc lv (.int x2 :: .int x1 :: .ref x0 :: st) :=
  jx_callVi (na := 2) (As := [.int x1, .int x2]) hX hY jf0 h1a (fun sz => mxw0_clash (jj_l X) hY.2.2.2.2 D dA aK aV x0 x1 x2 K u  Post h sz) hlk q1384 q1385 q120 q1386 ⟨rfl, hd_xw0_clash⟩ rfl rfl hw hF hL hk hk2 d q hq kk
theorem knxw0_clash {X : JC} {A : Nat → Prop} {Q : State → Prop} {nL k n pc : Nat} {lv : List (Nat × Value)} {st : List Value} {own : String} {cc : ByteArray} {ret : Option FieldType} {F LL mc ms ix : Nat} {D : va_G} {dA aK aV : Nat → Nat} {K : XK} {u : XS} {x0 : Nat} {x1 : Int32} {x2 : Int32} {host : String} {Post : Int32 → XS → Prop} (hX : JX X own cc nL ret F LL mc ms) (hY : JY X D dA aK aV A) (h1a : K x0 = (1, 0)) (hlk : (Cond.methodLinkNest own ix yX0_clash host) ∈ jx_nest) (hF : 2 + 1 ≤ F) (hL : 8 + (3 + 11) + 46 ≤ LL) (hk : k ≤ mc) (hk2 : n ≤ ms) (hw : (st.map fun v => v.category).sum ≤ 8) (d : decode cc pc = .ok (.invokevirtual ix, 3)) (q : Nat) (hq : pc + 3 = q) (h : xw0_clash x0 x1 x2 K u  Post) (kk : ∀ (r : Int32) (u2 : XS), Post r u2 → JJ X A Q nL (XP D dA A K u2) k n q lv (.int r :: st)) : JJ X A Q nL (XP D dA A K u) k n pc lv (.int x2 :: .int x1 :: .ref x0 :: st) :=
  jx_callNi (na := 2) (As := [.int x1, .int x2]) hX hY jf0 h1a (fun sz => mxw0_clash (jj_l X) hY.2.2.2.2 D dA aK aV x0 x1 x2 K u  Post h sz) hlk q1384 q1385 q120 q1386 hd_xw0_clash rfl rfl hw hF hL hk hk2 d q hq kk
def xw0_clashes_B77 (G9 : Int32 → Int32 → XS → Prop) (G22 : Int32 → Int32 → XS → Prop) (Post : Int32 → XS → Prop) (K : XK) (x0 : Nat) (x2 : Int32) (x3 : Int32) (s0 : Int32) (u : XS) : Prop :=
  ∀ v79 : Int32, v79 = (s0 + (0 : Int32)) →
  ∀ v80 : Int32, v80 = x3 + (1 : Int32) →
  G22 v79 v80 u
def xw0_clashes_L22_S (G9 : Int32 → Int32 → XS → Prop) (Post : Int32 → XS → Prop) (K : XK) (x0 : Nat) (x2 : Int32) (R : Int32 → Int32 → XS → Prop) (x1 : Int32) (x3 : Int32) (u : XS) : Prop :=
  K x0 = (1, 0) ∧
  xw0_table x0 K u (fun r24 u24 =>
    K r24 = (1, 5) ∧
    ((xi u24 r24 1) ≤ x3 →
      ∀ v86 : Int32, v86 = x2 + (1 : Int32) →
      G9 x1 v86 u24) ∧
    (¬ (xi u24 r24 1) ≤ x3 →
      (x2 = x3 →
        xw0_clashes_B77 G9 R Post K x0 x2 x3 x1 u24) ∧
      (¬ x2 = x3 →
        xw0_isThere x0 x2 K u24 (fun r41 u41 =>
          (r41 = 0 →
            xw0_clashes_B77 G9 R Post K x0 x2 x3 x1 u41) ∧
          (¬ r41 = 0 →
            xw0_isThere x0 x3 K u41 (fun r49 u49 =>
              (r49 = 0 →
                xw0_clashes_B77 G9 R Post K x0 x2 x3 x1 u49) ∧
              (¬ r49 = 0 →
                xw0_at x0 x2 K u49 (fun r57 u57 =>
                  xw0_at x0 x3 K u57 (fun r63 u63 =>
                    xRule K r57 ∧
                    xw9_isAhead r57 (0 : Int32) r63 (0 : Int32) K u63 (fun r67 u67 =>
                      (r67 = 0 →
                        xw0_clashes_B77 G9 R Post K x0 x2 x3 x1 u67) ∧
                      (¬ r67 = 0 →
                        ∀ v79 : Int32, v79 = (x1 + (1 : Int32)) →
                        ∀ v80 : Int32, v80 = x3 + (1 : Int32) →
                        R v79 v80 u67)))))))))))
def xw0_clashes_L22 (G9 : Int32 → Int32 → XS → Prop) (Post : Int32 → XS → Prop) (K : XK) (x0 : Nat) (x2 : Int32) : Nat → Int32 → Int32 → XS → Prop
  | 0 => fun _ _ _ => False
  | n + 1 => fun x1 x3 u => xw0_clashes_L22_S G9 Post K x0 x2 (xw0_clashes_L22 G9 Post K x0 x2 n) x1 x3 u
def xw0_clashes_L9_S (Post : Int32 → XS → Prop) (K : XK) (x0 : Nat) (R : Int32 → Int32 → XS → Prop) (x1 : Int32) (x2 : Int32) (u : XS) : Prop :=
  K x0 = (1, 0) ∧
  xw0_table x0 K u (fun r11 u11 =>
    K r11 = (1, 5) ∧
    ((xi u11 r11 1) ≤ x2 →
      Post x1 u11) ∧
    (¬ (xi u11 r11 1) ≤ x2 →
      ∃ n, xw0_clashes_L22 R Post K x0 x2 n x1 (0 : Int32) u11))
def xw0_clashes_L9 (Post : Int32 → XS → Prop) (K : XK) (x0 : Nat) : Nat → Int32 → Int32 → XS → Prop
  | 0 => fun _ _ _ => False
  | n + 1 => fun x1 x2 u => xw0_clashes_L9_S Post K x0 (xw0_clashes_L9 Post K x0 n) x1 x2 u
/-- RaisedPress.clashes()I -/
def xw0_clashes (x0 : Nat) (K : XK) (u : XS) (Post : Int32 → XS → Prop) : Prop :=
  K x0 = (1, 0) ∧
  ∀ u2 : XS, u2 = xsi u x0 7 (0 : Int32) →
  ∃ n, xw0_clashes_L9 Post K x0 n (0 : Int32) (0 : Int32) u2
set_option maxHeartbeats 4000000 in
set_option maxRecDepth 100000 in
theorem txw0_clashes_B77 {X : JC} {D : va_G} {dA aK aV : Nat → Nat} {sz : Nat} {K : XK} {G9 : Int32 → Int32 → XS → Prop} {G22 : Int32 → Int32 → XS → Prop} {Post : Int32 → XS → Prop} {x0 : Nat} {x2 : Int32} {x3 : Int32} {s0 : Int32} {u : XS} (hX : JX X yX0_clashes.cls cX0_clashes 4 (Option.some Jvm.ClassFile.FieldType.int) 1 24 0 0) (hY : JY X D dA aK aV (AX K sz)) (hG9 : ∀ (y1 : Int32) (y2 : Int32) (u : XS), G9 y1 y2 u → JJ X (AX K sz) (jj_Q X (va_Qi (fun (r : Int32) (w : XS) => Post r w) (jx_B D dA K) (AX K sz)) 0 0 (AX K sz)) 4 (XP D dA (AX K sz) K u) 0 0 9 [(0, .ref x0), (1, .int y1), (2, .int y2)] []) (hG22 : ∀ (y1 : Int32) (y3 : Int32) (u : XS), G22 y1 y3 u → JJ X (AX K sz) (jj_Q X (va_Qi (fun (r : Int32) (w : XS) => Post r w) (jx_B D dA K) (AX K sz)) 0 0 (AX K sz)) 4 (XP D dA (AX K sz) K u) 0 0 22 [(0, .ref x0), (1, .int y1), (2, .int x2), (3, .int y3)] []) (h : xw0_clashes_B77 G9 G22 Post K x0 x2 x3 s0 u) : JJ X (AX K sz) (jj_Q X (va_Qi (fun (r : Int32) (w : XS) => Post r w) (jx_B D dA K) (AX K sz)) 0 0 (AX K sz)) 4 (XP D dA (AX K sz) K u) 0 0 77 [(0, .ref x0), (2, .int x2), (3, .int x3)] [.int s0] := by
  unfold xw0_clashes_B77 at h
  refine jj_iconst hX dX0_clashes_77 ci_0 78 rfl ?_
  refine jj_iadd hX dX0_clashes_78 79 rfl ?_
  refine jj_topi (fun v79 e79 => ?_)
  have h := h v79 e79
  refine jj_istore_n (lv2 := [(0, .ref x0), (1, .int v79), (2, .int x2), (3, .int x3)]) hX dX0_clashes_79 (Nat.le_of_ble_eq_true rfl) [1, 0, 2, 3] rfl 80 rfl ?_
  obtain ⟨v80, e80⟩ : ∃ y : Int32, y = x3 + (1 : Int32) := ⟨_, rfl⟩
  have h := h v80 e80
  refine jj_iinc (v := v80) (lv2 := [(0, .ref x0), (1, .int v79), (2, .int x2), (3, .int v80)]) hX dX0_clashes_80 3 rfl (by rw [e80, ci_1]) (Nat.le_of_ble_eq_true rfl) [1, 2, 3, 0] rfl 83 rfl ?_
  refine jj_goto hX dX0_clashes_83 22 (by decide) ?_
  exact hG22 _ _ _ h
set_option maxHeartbeats 4000000 in
set_option maxRecDepth 100000 in
theorem txw0_clashes_L22 {X : JC} {D : va_G} {dA aK aV : Nat → Nat} {sz : Nat} {K : XK} {G9 : Int32 → Int32 → XS → Prop} {Post : Int32 → XS → Prop} {x0 : Nat} {x2 : Int32} (hX : JX X yX0_clashes.cls cX0_clashes 4 (Option.some Jvm.ClassFile.FieldType.int) 1 24 0 0) (hY : JY X D dA aK aV (AX K sz)) (hG9 : ∀ (y1 : Int32) (y2 : Int32) (u : XS), G9 y1 y2 u → JJ X (AX K sz) (jj_Q X (va_Qi (fun (r : Int32) (w : XS) => Post r w) (jx_B D dA K) (AX K sz)) 0 0 (AX K sz)) 4 (XP D dA (AX K sz) K u) 0 0 9 [(0, .ref x0), (1, .int y1), (2, .int y2)] []) : ∀ (n : Nat) (x1 : Int32) (x3 : Int32) (u : XS), xw0_clashes_L22 G9 Post K x0 x2 n x1 x3 u → JJ X (AX K sz) (jj_Q X (va_Qi (fun (r : Int32) (w : XS) => Post r w) (jx_B D dA K) (AX K sz)) 0 0 (AX K sz)) 4 (XP D dA (AX K sz) K u) 0 0 22 [(0, .ref x0), (1, .int x1), (2, .int x2), (3, .int x3)] [] := by
  intro n
  induction n with
  | zero =>
    intro x1 x3 u h
    exact h.elim
  | succ n ih =>
    intro x1 x3 u h
    have h : xw0_clashes_L22_S G9 Post K x0 x2 (xw0_clashes_L22 G9 Post K x0 x2 n) x1 x3 u := h
    unfold xw0_clashes_L22_S at h
    refine jj_iload_n hX dX0_clashes_22 3 rfl 23 rfl ?_
    refine jj_aload_n hX dX0_clashes_23 0 rfl 24 rfl ?_
    obtain ⟨k24, h⟩ := h
    refine kxw0_table hX hY k24 q879 (Nat.le_of_ble_eq_true rfl) (Nat.le_of_ble_eq_true rfl) (Nat.zero_le _) (Nat.zero_le _) (Nat.le_of_ble_eq_true rfl) dX0_clashes_24 27 rfl h (fun r24 u24 h => ?_)
    obtain ⟨k27, h⟩ := h
    refine xgn5_1 hX hY k27 dX0_clashes_27 nq279 30 rfl ?_
    refine jj_icmp_ge hX dX0_clashes_30 86 33 (by decide) rfl (fun c30 => ?_) (fun c30 => ?_)
    · have h := h.1 c30
      obtain ⟨v86, e86⟩ : ∃ y : Int32, y = x2 + (1 : Int32) := ⟨_, rfl⟩
      have h := h v86 e86
      refine jj_iinc (v := v86) (lv2 := [(0, .ref x0), (1, .int x1), (2, .int v86), (3, .int x3)]) hX dX0_clashes_86 2 rfl (by rw [e86, ci_1]) (Nat.le_of_ble_eq_true rfl) [1, 2, 0, 3] rfl 89 rfl ?_
      refine jj_goto hX dX0_clashes_89 9 (by decide) ?_
      refine jj_sub (lv2 := [(0, .ref x0), (1, .int x1), (2, .int v86)]) [0, 1, 2] rfl ?_
      exact hG9 _ _ _ h
    · have h := h.2 c30
      refine jj_iload_n hX dX0_clashes_33 1 rfl 34 rfl ?_
      refine jj_iload_n hX dX0_clashes_34 2 rfl 35 rfl ?_
      refine jj_iload_n hX dX0_clashes_35 3 rfl 36 rfl ?_
      refine jj_icmp_eq hX dX0_clashes_36 77 39 (by decide) rfl (fun c36 => ?_) (fun c36 => ?_)
      · have h := h.1 c36
        refine jj_sub (lv2 := [(0, .ref x0), (2, .int x2), (3, .int x3)]) [0, 2, 3] rfl ?_
        exact txw0_clashes_B77 hX hY hG9 ih h
      · have h := h.2 c36
        refine jj_aload_n hX dX0_clashes_39 0 rfl 40 rfl ?_
        refine jj_iload_n hX dX0_clashes_40 2 rfl 41 rfl ?_
        refine kxw0_isThere hX hY k24 q1173 (Nat.le_of_ble_eq_true rfl) (Nat.le_of_ble_eq_true rfl) (Nat.zero_le _) (Nat.zero_le _) (Nat.le_of_ble_eq_true rfl) dX0_clashes_41 44 rfl h (fun r41 u41 hb41 h => ?_)
        refine jj_if_eq hX dX0_clashes_44 77 47 (by decide) rfl (fun c44 => ?_) (fun c44 => ?_)
        · have h := h.1 c44
          refine jj_sub (lv2 := [(0, .ref x0), (2, .int x2), (3, .int x3)]) [0, 2, 3] rfl ?_
          exact txw0_clashes_B77 hX hY hG9 ih h
        · have h := h.2 c44
          refine jj_aload_n hX dX0_clashes_47 0 rfl 48 rfl ?_
          refine jj_iload_n hX dX0_clashes_48 3 rfl 49 rfl ?_
          refine kxw0_isThere hX hY k24 q1173 (Nat.le_of_ble_eq_true rfl) (Nat.le_of_ble_eq_true rfl) (Nat.zero_le _) (Nat.zero_le _) (Nat.le_of_ble_eq_true rfl) dX0_clashes_49 52 rfl h (fun r49 u49 hb49 h => ?_)
          refine jj_if_eq hX dX0_clashes_52 77 55 (by decide) rfl (fun c52 => ?_) (fun c52 => ?_)
          · have h := h.1 c52
            refine jj_sub (lv2 := [(0, .ref x0), (2, .int x2), (3, .int x3)]) [0, 2, 3] rfl ?_
            exact txw0_clashes_B77 hX hY hG9 ih h
          · have h := h.2 c52
            refine jj_aload_n hX dX0_clashes_55 0 rfl 56 rfl ?_
            refine jj_iload_n hX dX0_clashes_56 2 rfl 57 rfl ?_
            refine kxw0_at hX hY k24 q1090 (Nat.le_of_ble_eq_true rfl) (Nat.le_of_ble_eq_true rfl) (Nat.zero_le _) (Nat.zero_le _) (Nat.le_of_ble_eq_true rfl) dX0_clashes_57 60 rfl h (fun r57 u57 h => ?_)
            refine jj_iconst hX dX0_clashes_60 ci_0 61 rfl ?_
            refine jj_aload_n hX dX0_clashes_61 0 rfl 62 rfl ?_
            refine jj_iload_n hX dX0_clashes_62 3 rfl 63 rfl ?_
            refine kxw0_at hX hY k24 q1090 (Nat.le_of_ble_eq_true rfl) (Nat.le_of_ble_eq_true rfl) (Nat.zero_le _) (Nat.zero_le _) (Nat.le_of_ble_eq_true rfl) dX0_clashes_63 66 rfl h (fun r63 u63 h => ?_)
            refine jj_iconst hX dX0_clashes_66 ci_0 67 rfl ?_
            obtain ⟨k67, h⟩ := h
            refine kxw9_isAhead hX hY k67 q1387 (Nat.le_of_ble_eq_true rfl) (Nat.le_of_ble_eq_true rfl) (Nat.zero_le _) (Nat.zero_le _) (Nat.le_of_ble_eq_true rfl) dX0_clashes_67 70 rfl h (fun r67 u67 hb67 h => ?_)
            refine jj_if_eq hX dX0_clashes_70 77 73 (by decide) rfl (fun c70 => ?_) (fun c70 => ?_)
            · have h := h.1 c70
              refine jj_sub (lv2 := [(0, .ref x0), (2, .int x2), (3, .int x3)]) [0, 2, 3] rfl ?_
              exact txw0_clashes_B77 hX hY hG9 ih h
            · have h := h.2 c70
              refine jj_iconst hX dX0_clashes_73 ci_1 74 rfl ?_
              refine jj_goto hX dX0_clashes_74 78 (by decide) ?_
              refine jj_iadd hX dX0_clashes_78 79 rfl ?_
              refine jj_topi (fun v79 e79 => ?_)
              have h := h v79 e79
              refine jj_istore_n (lv2 := [(0, .ref x0), (1, .int v79), (2, .int x2), (3, .int x3)]) hX dX0_clashes_79 (Nat.le_of_ble_eq_true rfl) [1, 0, 2, 3] rfl 80 rfl ?_
              obtain ⟨v80, e80⟩ : ∃ y : Int32, y = x3 + (1 : Int32) := ⟨_, rfl⟩
              have h := h v80 e80
              refine jj_iinc (v := v80) (lv2 := [(0, .ref x0), (1, .int v79), (2, .int x2), (3, .int v80)]) hX dX0_clashes_80 3 rfl (by rw [e80, ci_1]) (Nat.le_of_ble_eq_true rfl) [1, 2, 3, 0] rfl 83 rfl ?_
              refine jj_goto hX dX0_clashes_83 22 (by decide) ?_
              exact ih _ _ _ h
set_option maxHeartbeats 4000000 in
set_option maxRecDepth 100000 in
theorem txw0_clashes_L9 {X : JC} {D : va_G} {dA aK aV : Nat → Nat} {sz : Nat} {K : XK} {Post : Int32 → XS → Prop} {x0 : Nat} (hX : JX X yX0_clashes.cls cX0_clashes 4 (Option.some Jvm.ClassFile.FieldType.int) 1 24 0 0) (hY : JY X D dA aK aV (AX K sz)) : ∀ (n : Nat) (x1 : Int32) (x2 : Int32) (u : XS), xw0_clashes_L9 Post K x0 n x1 x2 u → JJ X (AX K sz) (jj_Q X (va_Qi (fun (r : Int32) (w : XS) => Post r w) (jx_B D dA K) (AX K sz)) 0 0 (AX K sz)) 4 (XP D dA (AX K sz) K u) 0 0 9 [(0, .ref x0), (1, .int x1), (2, .int x2)] [] := by
  intro n
  induction n with
  | zero =>
    intro x1 x2 u h
    exact h.elim
  | succ n ih =>
    intro x1 x2 u h
    have h : xw0_clashes_L9_S Post K x0 (xw0_clashes_L9 Post K x0 n) x1 x2 u := h
    unfold xw0_clashes_L9_S at h
    refine jj_iload_n hX dX0_clashes_9 2 rfl 10 rfl ?_
    refine jj_aload_n hX dX0_clashes_10 0 rfl 11 rfl ?_
    obtain ⟨k11, h⟩ := h
    refine kxw0_table hX hY k11 q879 (Nat.le_of_ble_eq_true rfl) (Nat.le_of_ble_eq_true rfl) (Nat.zero_le _) (Nat.zero_le _) (Nat.le_of_ble_eq_true rfl) dX0_clashes_11 14 rfl h (fun r11 u11 h => ?_)
    obtain ⟨k14, h⟩ := h
    refine xgn5_1 hX hY k14 dX0_clashes_14 nq279 17 rfl ?_
    refine jj_icmp_ge hX dX0_clashes_17 92 20 (by decide) rfl (fun c17 => ?_) (fun c17 => ?_)
    · have h := h.1 c17
      refine jj_iload_n hX dX0_clashes_92 1 rfl 93 rfl ?_
      exact jj_reti (post := (fun (r : Int32) (w : XS) => Post r w)) (u := u11) hX dX0_clashes_93 (Nat.le_refl 0) (Nat.le_refl 0) jx_hB h
    · have h := h.2 c17
      refine jj_iconst hX dX0_clashes_20 ci_0 21 rfl ?_
      refine jj_istore_n (lv2 := [(0, .ref x0), (1, .int x1), (2, .int x2), (3, .int (0 : Int32))]) hX dX0_clashes_21 (Nat.le_of_ble_eq_true rfl) [1, 2, 3, 0] rfl 22 rfl ?_
      obtain ⟨n9, h⟩ := h
      exact txw0_clashes_L22 hX hY ih n9 _ _ _ h
set_option maxHeartbeats 4000000 in
set_option maxRecDepth 100000 in
theorem mxw0_clashes (l : Launch) (hfl : l.stackTraces = false) (D : va_G) (dA aK aV : Nat → Nat) (x0 : Nat) (K : XK) (u : XS) (Post : Int32 → XS → Prop) (h : xw0_clashes x0 K u Post) (sz : Nat) : Met l yX0_clashes (ws_ yX0_clashes cX0_clashes 4 (Option.some Jvm.ClassFile.FieldType.int)) (jx_rm 1 24 0 0) (jx_Pc D dA aK aV K u sz [.ref x0]) (va_Qi (fun (r : Int32) (w : XS) => Post r w) (jx_B D dA K) (AX K sz)) 0 0 (AX K sz) := by
  refine jx_start hfl [.ref x0] [(0, .ref x0)] (by decide) (Nat.le_of_ble_eq_true rfl) rfl (fun X hX hY hin => ?_)
  unfold xw0_clashes at h
  refine jj_aload_n hX dX0_clashes_0 0 rfl 1 rfl ?_
  refine jj_iconst hX dX0_clashes_1 ci_0 2 rfl ?_
  obtain ⟨k2, h⟩ := h
  refine xp0_7 hX hY k2 dX0_clashes_2 q418 5 rfl (fun u2 e2 => ?_)
  have h := h u2 e2
  refine jj_iconst hX dX0_clashes_5 ci_0 6 rfl ?_
  refine jj_istore_n (lv2 := [(0, .ref x0), (1, .int (0 : Int32))]) hX dX0_clashes_6 (Nat.le_of_ble_eq_true rfl) [1, 0] rfl 7 rfl ?_
  refine jj_iconst hX dX0_clashes_7 ci_0 8 rfl ?_
  refine jj_istore_n (lv2 := [(0, .ref x0), (1, .int (0 : Int32)), (2, .int (0 : Int32))]) hX dX0_clashes_8 (Nat.le_of_ble_eq_true rfl) [1, 2, 0] rfl 9 rfl ?_
  obtain ⟨n9, h⟩ := h
  exact txw0_clashes_L9 hX hY n9 _ _ _ h
theorem hd_xw0_clashes : yX0_clashes.cls ≠ "java/lang/invoke/MethodHandle" ∧ yX0_clashes.cls ≠ "java/lang/invoke/VarHandle" ∧ (parseMethodDescriptor yX0_clashes.desc).map (fun d => d.parameters.length) = some 0 := by decide +kernel
theorem kxw0_clashes {X : JC} {A : Nat → Prop} {Q : State → Prop} {nL k n pc : Nat} {lv : List (Nat × Value)} {st : List Value} {own : String} {cc : ByteArray} {ret : Option FieldType} {F LL mc ms ix : Nat} {D : va_G} {dA aK aV : Nat → Nat} {K : XK} {u : XS} {x0 : Nat} {Post : Int32 → XS → Prop} (hX : JX X own cc nL ret F LL mc ms) (hY : JY X D dA aK aV A) (h1a : K x0 = (1, 0)) (hlk : (Cond.methodLink own ix yX0_clashes) ∈ lw_all) (hF : 1 + 1 ≤ F) (hL : 8 + (4 + 11) + 24 ≤ LL) (hk : k ≤ mc) (hk2 : n ≤ ms) (hw : (st.map fun v => v.category).sum ≤ 8) (d : decode cc pc = .ok (.invokevirtual ix, 3)) (q : Nat) (hq : pc + 3 = q) (h : xw0_clashes x0 K u  Post) (kk : ∀ (r : Int32) (u2 : XS), Post r u2 → JJ X A Q nL (XP D dA A K u2) k n q lv (.int r :: st)) : JJ X A Q nL (XP D dA A K u) k n pc lv (.ref x0 :: st) :=
  jx_callVi (na := 0) (As := []) hX hY jf0 h1a (fun sz => mxw0_clashes (jj_l X) hY.2.2.2.2 D dA aK aV x0 K u  Post h sz) hlk q1397 q1398 q120 q1399 ⟨rfl, hd_xw0_clashes⟩ rfl rfl hw hF hL hk hk2 d q hq kk
theorem knxw0_clashes {X : JC} {A : Nat → Prop} {Q : State → Prop} {nL k n pc : Nat} {lv : List (Nat × Value)} {st : List Value} {own : String} {cc : ByteArray} {ret : Option FieldType} {F LL mc ms ix : Nat} {D : va_G} {dA aK aV : Nat → Nat} {K : XK} {u : XS} {x0 : Nat} {host : String} {Post : Int32 → XS → Prop} (hX : JX X own cc nL ret F LL mc ms) (hY : JY X D dA aK aV A) (h1a : K x0 = (1, 0)) (hlk : (Cond.methodLinkNest own ix yX0_clashes host) ∈ jx_nest) (hF : 1 + 1 ≤ F) (hL : 8 + (4 + 11) + 24 ≤ LL) (hk : k ≤ mc) (hk2 : n ≤ ms) (hw : (st.map fun v => v.category).sum ≤ 8) (d : decode cc pc = .ok (.invokevirtual ix, 3)) (q : Nat) (hq : pc + 3 = q) (h : xw0_clashes x0 K u  Post) (kk : ∀ (r : Int32) (u2 : XS), Post r u2 → JJ X A Q nL (XP D dA A K u2) k n q lv (.int r :: st)) : JJ X A Q nL (XP D dA A K u) k n pc lv (.ref x0 :: st) :=
  jx_callNi (na := 0) (As := []) hX hY jf0 h1a (fun sz => mxw0_clashes (jj_l X) hY.2.2.2.2 D dA aK aV x0 K u  Post h sz) hlk q1397 q1398 q120 q1399 hd_xw0_clashes rfl rfl hw hF hL hk hk2 d q hq kk
/-- RaisedPress.hangs(III)V -/
def xw0_hangs (x0 : Nat) (x1 : Int32) (x2 : Int32) (x3 : Int32) (K : XK) (u : XS) (Post : XS → Prop) : Prop :=
  K x0 = (1, 0) ∧
  ∃ b18, (xr u x0 22) = some b18 ∧
  ∃ n18, K b18 = (2, n18) ∧
  vp_in (((3 : Int32) * x1) + x2) n18 ∧
  jw_min (xi u b18 (((3 : Int32) * x1) + x2).toNatClampNeg) x3 (fun r20 =>
    ∃ b23, (xr u x0 22) = some b23 ∧
    ∃ n23, K b23 = (2, n23) ∧
    vp_in (((3 : Int32) * x1) + x2) n23 ∧
    ∀ u23 : XS, u23 = xsi u b23 (((3 : Int32) * x1) + x2).toNatClampNeg r20 →
    Post u23)
set_option maxHeartbeats 4000000 in
set_option maxRecDepth 100000 in
theorem mxw0_hangs (l : Launch) (hfl : l.stackTraces = false) (D : va_G) (dA aK aV : Nat → Nat) (x0 : Nat) (x1 : Int32) (x2 : Int32) (x3 : Int32) (K : XK) (u : XS) (Post : XS → Prop) (h : xw0_hangs x0 x1 x2 x3 K u Post) (sz : Nat) : Met l yX0_hangs (ws_ yX0_hangs cX0_hangs 4 (Option.none : Option Jvm.ClassFile.FieldType)) (jx_rm 1 21 0 0) (jx_Pc D dA aK aV K u sz [.ref x0, .int x1, .int x2, .int x3]) (va_Qv (fun w : XS => Post w) (jx_B D dA K) (AX K sz)) 0 0 (AX K sz) := by
  refine jx_start hfl [.ref x0, .int x1, .int x2, .int x3] [(0, .ref x0), (1, .int x1), (2, .int x2), (3, .int x3)] (by decide) (Nat.le_of_ble_eq_true rfl) rfl (fun X hX hY hin => ?_)
  unfold xw0_hangs at h
  refine jj_aload_n hX dX0_hangs_0 0 rfl 1 rfl ?_
  obtain ⟨k1, h⟩ := h
  refine xg0_22 hX hY k1 dX0_hangs_1 q433 4 rfl ?_
  refine jj_iconst hX dX0_hangs_4 ci_3 5 rfl ?_
  refine jj_iload_n hX dX0_hangs_5 1 rfl 6 rfl ?_
  refine jj_imul hX dX0_hangs_6 7 rfl ?_
  refine jj_iload_n hX dX0_hangs_7 2 rfl 8 rfl ?_
  refine jj_iadd hX dX0_hangs_8 9 rfl ?_
  refine jj_aload_n hX dX0_hangs_9 0 rfl 10 rfl ?_
  refine xg0_22 hX hY k1 dX0_hangs_10 q433 13 rfl ?_
  refine jj_iconst hX dX0_hangs_13 ci_3 14 rfl ?_
  refine jj_iload_n hX dX0_hangs_14 1 rfl 15 rfl ?_
  refine jj_imul hX dX0_hangs_15 16 rfl ?_
  refine jj_iload_n hX dX0_hangs_16 2 rfl 17 rfl ?_
  refine jj_iadd hX dX0_hangs_17 18 rfl ?_
  obtain ⟨b18, g18, h⟩ := h
  refine jj_st (st2 := [.int (((3 : Int32) * x1) + x2), .ref b18, .int (((3 : Int32) * x1) + x2), va_rf (xr u x0 22)]) (by rw [va_rf_some g18]) ?_
  obtain ⟨n18, k18, h⟩ := h
  obtain ⟨hi18, h⟩ := h
  refine jx_iald hX hY.1 k18 _ rfl hi18 dX0_hangs_18 19 rfl ?_
  refine jj_iload_n hX dX0_hangs_19 3 rfl 20 rfl ?_
  refine kjw_min hX XP.keeps q1239 (Nat.le_of_ble_eq_true rfl) (Nat.le_of_ble_eq_true rfl) (Nat.zero_le _) (Nat.zero_le _) (by simp [jx_rfc, jx_c1, jx_c2, jx_c3, jx_c4]) dX0_hangs_20 23 rfl h (fun r20 h => ?_)
  obtain ⟨b23, g23, h⟩ := h
  refine jj_st (st2 := [.int r20, .int (((3 : Int32) * x1) + x2), .ref b23]) (by rw [va_rf_some g23]) ?_
  obtain ⟨n23, k23, h⟩ := h
  obtain ⟨hi23, h⟩ := h
  refine jx_iast hX hY.1 k23 _ rfl hi23 dX0_hangs_23 24 rfl (fun u23 e23 => ?_)
  have h := h u23 e23
  exact jj_retv (post := (fun w : XS => Post w)) (u := u23) hX dX0_hangs_24 (Nat.le_refl 0) (Nat.le_refl 0) jx_hB h
theorem hd_xw0_hangs : yX0_hangs.cls ≠ "java/lang/invoke/MethodHandle" ∧ yX0_hangs.cls ≠ "java/lang/invoke/VarHandle" ∧ (parseMethodDescriptor yX0_hangs.desc).map (fun d => d.parameters.length) = some 3 := by decide +kernel
theorem kxw0_hangs {X : JC} {A : Nat → Prop} {Q : State → Prop} {nL k n pc : Nat} {lv : List (Nat × Value)} {st : List Value} {own : String} {cc : ByteArray} {ret : Option FieldType} {F LL mc ms ix : Nat} {D : va_G} {dA aK aV : Nat → Nat} {K : XK} {u : XS} {x0 : Nat} {x1 : Int32} {x2 : Int32} {x3 : Int32} {Post : XS → Prop} (hX : JX X own cc nL ret F LL mc ms) (hY : JY X D dA aK aV A) (h1a : K x0 = (1, 0)) (hlk : (Cond.methodLink own ix yX0_hangs) ∈ lw_all) (hF : 1 + 1 ≤ F) (hL : 8 + (4 + 11) + 21 ≤ LL) (hk : k ≤ mc) (hk2 : n ≤ ms) (hw : (st.map fun v => v.category).sum ≤ 8) (d : decode cc pc = .ok (.invokevirtual ix, 3)) (q : Nat) (hq : pc + 3 = q) (h : xw0_hangs x0 x1 x2 x3 K u  Post) (kk : ∀ (u2 : XS), Post u2 → JJ X A Q nL (XP D dA A K u2) k n q lv (st)) : JJ X A Q nL (XP D dA A K u) k n pc lv (.int x3 :: .int x2 :: .int x1 :: .ref x0 :: st) :=
  jx_callVv (na := 3) (As := [.int x1, .int x2, .int x3]) hX hY jf0 h1a (fun sz => mxw0_hangs (jj_l X) hY.2.2.2.2 D dA aK aV x0 x1 x2 x3 K u  Post h sz) hlk q1410 qs53 q120 q1411 ⟨rfl, hd_xw0_hangs⟩ rfl rfl hw hF hL hk hk2 d q hq kk
theorem knxw0_hangs {X : JC} {A : Nat → Prop} {Q : State → Prop} {nL k n pc : Nat} {lv : List (Nat × Value)} {st : List Value} {own : String} {cc : ByteArray} {ret : Option FieldType} {F LL mc ms ix : Nat} {D : va_G} {dA aK aV : Nat → Nat} {K : XK} {u : XS} {x0 : Nat} {x1 : Int32} {x2 : Int32} {x3 : Int32} {host : String} {Post : XS → Prop} (hX : JX X own cc nL ret F LL mc ms) (hY : JY X D dA aK aV A) (h1a : K x0 = (1, 0)) (hlk : (Cond.methodLinkNest own ix yX0_hangs host) ∈ jx_nest) (hF : 1 + 1 ≤ F) (hL : 8 + (4 + 11) + 21 ≤ LL) (hk : k ≤ mc) (hk2 : n ≤ ms) (hw : (st.map fun v => v.category).sum ≤ 8) (d : decode cc pc = .ok (.invokevirtual ix, 3)) (q : Nat) (hq : pc + 3 = q) (h : xw0_hangs x0 x1 x2 x3 K u  Post) (kk : ∀ (u2 : XS), Post u2 → JJ X A Q nL (XP D dA A K u2) k n q lv (st)) : JJ X A Q nL (XP D dA A K u) k n pc lv (.int x3 :: .int x2 :: .int x1 :: .ref x0 :: st) :=
  jx_callNv (na := 3) (As := [.int x1, .int x2, .int x3]) hX hY jf0 h1a (fun sz => mxw0_hangs (jj_l X) hY.2.2.2.2 D dA aK aV x0 x1 x2 x3 K u  Post h sz) hlk q1410 qs53 q120 q1411 hd_xw0_hangs rfl rfl hw hF hL hk hk2 d q hq kk
def xw0_nearest_L4_S (Post : Int32 → XS → Prop) (K : XK) (x0 : Nat) (R : Int32 → Int32 → XS → Prop) (x1 : Int32) (x2 : Int32) (u : XS) : Prop :=
  K x0 = (1, 0) ∧
  ∃ b9, (xr u x0 22) = some b9 ∧
  ∃ n9, K b9 = (2, n9) ∧
  ((nI n9) ≤ x2 →
    Post x1 u) ∧
  (¬ (nI n9) ≤ x2 →
    ∃ b18, (xr u x0 23) = some b18 ∧
    ∃ n18, K b18 = (6, n18) ∧
    vp_in x2 n18 ∧
    (¬ (xi u b18 x2.toNatClampNeg) = 0 →
      ∀ v55 : Int32, v55 = x2 + (1 : Int32) →
      R x1 v55 u) ∧
    ((xi u b18 x2.toNatClampNeg) = 0 →
      ∃ b27, (xr u x0 22) = some b27 ∧
      ∃ n27, K b27 = (2, n27) ∧
      vp_in x2 n27 ∧
      ((2147483647 : Int32) ≤ (xi u b27 x2.toNatClampNeg) →
        ∀ v55 : Int32, v55 = x2 + (1 : Int32) →
        R x1 v55 u) ∧
      (¬ (2147483647 : Int32) ≤ (xi u b27 x2.toNatClampNeg) →
        (x1 < 0 →
          ∀ v55 : Int32, v55 = x2 + (1 : Int32) →
          R x2 v55 u) ∧
        (¬ x1 < 0 →
          ∃ b43, (xr u x0 22) = some b43 ∧
          ∃ n43, K b43 = (2, n43) ∧
          vp_in x2 n43 ∧
          ∃ b49, (xr u x0 22) = some b49 ∧
          ∃ n49, K b49 = (2, n49) ∧
          vp_in x1 n49 ∧
          ((xi u b49 x1.toNatClampNeg) ≤ (xi u b43 x2.toNatClampNeg) →
            ∀ v55 : Int32, v55 = x2 + (1 : Int32) →
            R x1 v55 u) ∧
          (¬ (xi u b49 x1.toNatClampNeg) ≤ (xi u b43 x2.toNatClampNeg) →
            ∀ v55 : Int32, v55 = x2 + (1 : Int32) →
            R x2 v55 u)))))
def xw0_nearest_L4 (Post : Int32 → XS → Prop) (K : XK) (x0 : Nat) : Nat → Int32 → Int32 → XS → Prop
  | 0 => fun _ _ _ => False
  | n + 1 => fun x1 x2 u => xw0_nearest_L4_S Post K x0 (xw0_nearest_L4 Post K x0 n) x1 x2 u
/-- RaisedPress.nearest()I -/
def xw0_nearest (x0 : Nat) (K : XK) (u : XS) (Post : Int32 → XS → Prop) : Prop :=
  ∃ n, xw0_nearest_L4 Post K x0 n (-1 : Int32) (0 : Int32) u
set_option maxHeartbeats 4000000 in
set_option maxRecDepth 100000 in
theorem txw0_nearest_L4 {X : JC} {D : va_G} {dA aK aV : Nat → Nat} {sz : Nat} {K : XK} {Post : Int32 → XS → Prop} {x0 : Nat} (hX : JX X yX0_nearest.cls cX0_nearest 3 (Option.some Jvm.ClassFile.FieldType.int) 0 0 0 0) (hY : JY X D dA aK aV (AX K sz)) : ∀ (n : Nat) (x1 : Int32) (x2 : Int32) (u : XS), xw0_nearest_L4 Post K x0 n x1 x2 u → JJ X (AX K sz) (jj_Q X (va_Qi (fun (r : Int32) (w : XS) => Post r w) (jx_B D dA K) (AX K sz)) 0 0 (AX K sz)) 3 (XP D dA (AX K sz) K u) 0 0 4 [(0, .ref x0), (1, .int x1), (2, .int x2)] [] := by
  intro n
  induction n with
  | zero =>
    intro x1 x2 u h
    exact h.elim
  | succ n ih =>
    intro x1 x2 u h
    have h : xw0_nearest_L4_S Post K x0 (xw0_nearest_L4 Post K x0 n) x1 x2 u := h
    unfold xw0_nearest_L4_S at h
    refine jj_iload_n hX dX0_nearest_4 2 rfl 5 rfl ?_
    refine jj_aload_n hX dX0_nearest_5 0 rfl 6 rfl ?_
    obtain ⟨k6, h⟩ := h
    refine xg0_22 hX hY k6 dX0_nearest_6 q433 9 rfl ?_
    obtain ⟨b9, g9, h⟩ := h
    refine jj_st (st2 := [.ref b9, .int x2]) (by rw [va_rf_some g9]) ?_
    obtain ⟨n9, k9, h⟩ := h
    refine jx_alen hX hY.1 k9 dX0_nearest_9 10 rfl ?_
    refine jj_icmp_ge hX dX0_nearest_10 61 13 (by decide) rfl (fun c10 => ?_) (fun c10 => ?_)
    · have h := h.1 c10
      refine jj_iload_n hX dX0_nearest_61 1 rfl 62 rfl ?_
      exact jj_reti (post := (fun (r : Int32) (w : XS) => Post r w)) (u := u) hX dX0_nearest_62 (Nat.le_refl 0) (Nat.le_refl 0) jx_hB h
    · have h := h.2 c10
      refine jj_aload_n hX dX0_nearest_13 0 rfl 14 rfl ?_
      refine xg0_23 hX hY k6 dX0_nearest_14 q434 17 rfl ?_
      refine jj_iload_n hX dX0_nearest_17 2 rfl 18 rfl ?_
      obtain ⟨b18, g18, h⟩ := h
      refine jj_st (st2 := [.int x2, .ref b18]) (by rw [va_rf_some g18]) ?_
      obtain ⟨n18, k18, h⟩ := h
      obtain ⟨hi18, h⟩ := h
      refine jx_zald hX hY.1 k18 _ rfl hi18 dX0_nearest_18 19 rfl ?_
      refine jj_if_ne hX dX0_nearest_19 55 22 (by decide) rfl (fun c19 => ?_) (fun c19 => ?_)
      · have h := h.1 c19
        obtain ⟨v55, e55⟩ : ∃ y : Int32, y = x2 + (1 : Int32) := ⟨_, rfl⟩
        have h := h v55 e55
        refine jj_iinc (v := v55) (lv2 := [(0, .ref x0), (1, .int x1), (2, .int v55)]) hX dX0_nearest_55 2 rfl (by rw [e55, ci_1]) (Nat.le_of_ble_eq_true rfl) [1, 2, 0] rfl 58 rfl ?_
        refine jj_goto hX dX0_nearest_58 4 (by decide) ?_
        exact ih _ _ _ h
      · have h := h.2 c19
        refine jj_aload_n hX dX0_nearest_22 0 rfl 23 rfl ?_
        refine xg0_22 hX hY k6 dX0_nearest_23 q433 26 rfl ?_
        refine jj_iload_n hX dX0_nearest_26 2 rfl 27 rfl ?_
        obtain ⟨b27, g27, h⟩ := h
        refine jj_st (st2 := [.int x2, .ref b27]) (by rw [va_rf_some g27]) ?_
        obtain ⟨n27, k27, h⟩ := h
        obtain ⟨hi27, h⟩ := h
        refine jx_iald hX hY.1 k27 _ rfl hi27 dX0_nearest_27 28 rfl ?_
        refine jj_ldcw (v := 2147483647) hX dX0_nearest_28 q1308 31 rfl ?_
        refine jj_icmp_ge hX dX0_nearest_31 55 34 (by decide) rfl (fun c31 => ?_) (fun c31 => ?_)
        · have h := h.1 c31
          obtain ⟨v55, e55⟩ : ∃ y : Int32, y = x2 + (1 : Int32) := ⟨_, rfl⟩
          have h := h v55 e55
          refine jj_iinc (v := v55) (lv2 := [(0, .ref x0), (1, .int x1), (2, .int v55)]) hX dX0_nearest_55 2 rfl (by rw [e55, ci_1]) (Nat.le_of_ble_eq_true rfl) [1, 2, 0] rfl 58 rfl ?_
          refine jj_goto hX dX0_nearest_58 4 (by decide) ?_
          exact ih _ _ _ h
        · have h := h.2 c31
          refine jj_iload_n hX dX0_nearest_34 1 rfl 35 rfl ?_
          refine jj_if_lt hX dX0_nearest_35 53 38 (by decide) rfl (fun c35 => ?_) (fun c35 => ?_)
          · have h := h.1 c35
            refine jj_iload_n hX dX0_nearest_53 2 rfl 54 rfl ?_
            refine jj_istore_n (lv2 := [(0, .ref x0), (1, .int x2), (2, .int x2)]) hX dX0_nearest_54 (Nat.le_of_ble_eq_true rfl) [1, 0, 2] rfl 55 rfl ?_
            obtain ⟨v55, e55⟩ : ∃ y : Int32, y = x2 + (1 : Int32) := ⟨_, rfl⟩
            have h := h v55 e55
            refine jj_iinc (v := v55) (lv2 := [(0, .ref x0), (1, .int x2), (2, .int v55)]) hX dX0_nearest_55 2 rfl (by rw [e55, ci_1]) (Nat.le_of_ble_eq_true rfl) [1, 2, 0] rfl 58 rfl ?_
            refine jj_goto hX dX0_nearest_58 4 (by decide) ?_
            exact ih _ _ _ h
          · have h := h.2 c35
            refine jj_aload_n hX dX0_nearest_38 0 rfl 39 rfl ?_
            refine xg0_22 hX hY k6 dX0_nearest_39 q433 42 rfl ?_
            refine jj_iload_n hX dX0_nearest_42 2 rfl 43 rfl ?_
            obtain ⟨b43, g43, h⟩ := h
            refine jj_st (st2 := [.int x2, .ref b43]) (by rw [va_rf_some g43]) ?_
            obtain ⟨n43, k43, h⟩ := h
            obtain ⟨hi43, h⟩ := h
            refine jx_iald hX hY.1 k43 _ rfl hi43 dX0_nearest_43 44 rfl ?_
            refine jj_aload_n hX dX0_nearest_44 0 rfl 45 rfl ?_
            refine xg0_22 hX hY k6 dX0_nearest_45 q433 48 rfl ?_
            refine jj_iload_n hX dX0_nearest_48 1 rfl 49 rfl ?_
            obtain ⟨b49, g49, h⟩ := h
            refine jj_st (st2 := [.int x1, .ref b49, .int (xi u b43 x2.toNatClampNeg)]) (by rw [va_rf_some g49]) ?_
            obtain ⟨n49, k49, h⟩ := h
            obtain ⟨hi49, h⟩ := h
            refine jx_iald hX hY.1 k49 _ rfl hi49 dX0_nearest_49 50 rfl ?_
            refine jj_icmp_ge hX dX0_nearest_50 55 53 (by decide) rfl (fun c50 => ?_) (fun c50 => ?_)
            · have h := h.1 c50
              obtain ⟨v55, e55⟩ : ∃ y : Int32, y = x2 + (1 : Int32) := ⟨_, rfl⟩
              have h := h v55 e55
              refine jj_iinc (v := v55) (lv2 := [(0, .ref x0), (1, .int x1), (2, .int v55)]) hX dX0_nearest_55 2 rfl (by rw [e55, ci_1]) (Nat.le_of_ble_eq_true rfl) [1, 2, 0] rfl 58 rfl ?_
              refine jj_goto hX dX0_nearest_58 4 (by decide) ?_
              exact ih _ _ _ h
            · have h := h.2 c50
              refine jj_iload_n hX dX0_nearest_53 2 rfl 54 rfl ?_
              refine jj_istore_n (lv2 := [(0, .ref x0), (1, .int x2), (2, .int x2)]) hX dX0_nearest_54 (Nat.le_of_ble_eq_true rfl) [1, 0, 2] rfl 55 rfl ?_
              obtain ⟨v55, e55⟩ : ∃ y : Int32, y = x2 + (1 : Int32) := ⟨_, rfl⟩
              have h := h v55 e55
              refine jj_iinc (v := v55) (lv2 := [(0, .ref x0), (1, .int x2), (2, .int v55)]) hX dX0_nearest_55 2 rfl (by rw [e55, ci_1]) (Nat.le_of_ble_eq_true rfl) [1, 2, 0] rfl 58 rfl ?_
              refine jj_goto hX dX0_nearest_58 4 (by decide) ?_
              exact ih _ _ _ h
set_option maxHeartbeats 4000000 in
set_option maxRecDepth 100000 in
theorem mxw0_nearest (l : Launch) (hfl : l.stackTraces = false) (D : va_G) (dA aK aV : Nat → Nat) (x0 : Nat) (K : XK) (u : XS) (Post : Int32 → XS → Prop) (h : xw0_nearest x0 K u Post) (sz : Nat) : Met l yX0_nearest (ws_ yX0_nearest cX0_nearest 3 (Option.some Jvm.ClassFile.FieldType.int)) (jx_rm 0 0 0 0) (jx_Pc D dA aK aV K u sz [.ref x0]) (va_Qi (fun (r : Int32) (w : XS) => Post r w) (jx_B D dA K) (AX K sz)) 0 0 (AX K sz) := by
  refine jx_start hfl [.ref x0] [(0, .ref x0)] (by decide) (Nat.le_of_ble_eq_true rfl) rfl (fun X hX hY hin => ?_)
  unfold xw0_nearest at h
  refine jj_iconst hX dX0_nearest_0 ci_m1 1 rfl ?_
  refine jj_istore_n (lv2 := [(0, .ref x0), (1, .int (-1 : Int32))]) hX dX0_nearest_1 (Nat.le_of_ble_eq_true rfl) [1, 0] rfl 2 rfl ?_
  refine jj_iconst hX dX0_nearest_2 ci_0 3 rfl ?_
  refine jj_istore_n (lv2 := [(0, .ref x0), (1, .int (-1 : Int32)), (2, .int (0 : Int32))]) hX dX0_nearest_3 (Nat.le_of_ble_eq_true rfl) [1, 2, 0] rfl 4 rfl ?_
  obtain ⟨n9, h⟩ := h
  exact txw0_nearest_L4 hX hY n9 _ _ _ h
theorem hd_xw0_nearest : yX0_nearest.cls ≠ "java/lang/invoke/MethodHandle" ∧ yX0_nearest.cls ≠ "java/lang/invoke/VarHandle" ∧ (parseMethodDescriptor yX0_nearest.desc).map (fun d => d.parameters.length) = some 0 := by decide +kernel
theorem kxw0_nearest {X : JC} {A : Nat → Prop} {Q : State → Prop} {nL k n pc : Nat} {lv : List (Nat × Value)} {st : List Value} {own : String} {cc : ByteArray} {ret : Option FieldType} {F LL mc ms ix : Nat} {D : va_G} {dA aK aV : Nat → Nat} {K : XK} {u : XS} {x0 : Nat} {Post : Int32 → XS → Prop} (hX : JX X own cc nL ret F LL mc ms) (hY : JY X D dA aK aV A) (h1a : K x0 = (1, 0)) (hlk : (Cond.methodLink own ix yX0_nearest) ∈ lw_all) (hF : 0 + 1 ≤ F) (hL : 8 + (3 + 11) + 0 ≤ LL) (hk : k ≤ mc) (hk2 : n ≤ ms) (hw : (st.map fun v => v.category).sum ≤ 8) (d : decode cc pc = .ok (.invokevirtual ix, 3)) (q : Nat) (hq : pc + 3 = q) (h : xw0_nearest x0 K u  Post) (kk : ∀ (r : Int32) (u2 : XS), Post r u2 → JJ X A Q nL (XP D dA A K u2) k n q lv (.int r :: st)) : JJ X A Q nL (XP D dA A K u) k n pc lv (.ref x0 :: st) :=
  jx_callVi (na := 0) (As := []) hX hY jf0 h1a (fun sz => mxw0_nearest (jj_l X) hY.2.2.2.2 D dA aK aV x0 K u  Post h sz) hlk q1414 qs54 q120 q1415 ⟨rfl, hd_xw0_nearest⟩ rfl rfl hw hF hL hk hk2 d q hq kk
theorem knxw0_nearest {X : JC} {A : Nat → Prop} {Q : State → Prop} {nL k n pc : Nat} {lv : List (Nat × Value)} {st : List Value} {own : String} {cc : ByteArray} {ret : Option FieldType} {F LL mc ms ix : Nat} {D : va_G} {dA aK aV : Nat → Nat} {K : XK} {u : XS} {x0 : Nat} {host : String} {Post : Int32 → XS → Prop} (hX : JX X own cc nL ret F LL mc ms) (hY : JY X D dA aK aV A) (h1a : K x0 = (1, 0)) (hlk : (Cond.methodLinkNest own ix yX0_nearest host) ∈ jx_nest) (hF : 0 + 1 ≤ F) (hL : 8 + (3 + 11) + 0 ≤ LL) (hk : k ≤ mc) (hk2 : n ≤ ms) (hw : (st.map fun v => v.category).sum ≤ 8) (d : decode cc pc = .ok (.invokevirtual ix, 3)) (q : Nat) (hq : pc + 3 = q) (h : xw0_nearest x0 K u  Post) (kk : ∀ (r : Int32) (u2 : XS), Post r u2 → JJ X A Q nL (XP D dA A K u2) k n q lv (.int r :: st)) : JJ X A Q nL (XP D dA A K u) k n pc lv (.ref x0 :: st) :=
  jx_callNi (na := 0) (As := []) hX hY jf0 h1a (fun sz => mxw0_nearest (jj_l X) hY.2.2.2.2 D dA aK aV x0 K u  Post h sz) hlk q1414 qs54 q120 q1415 hd_xw0_nearest rfl rfl hw hF hL hk hk2 d q hq kk
def xw0_goesOn_B161 (G32 : Int32 → Int32 → XS → Prop) (Post : Int32 → XS → Prop) (K : XK) (x0 : Nat) (x1 : Int32) (x2 : Int32) (x3 : Int32) (x4 : Int32) (x5 : Int32) (x6 : Int32) (u : XS) : Prop :=
  ∀ v161 : Int32, v161 = x6 + (1 : Int32) →
  G32 x5 v161 u
def xw0_goesOn_B120 (G32 : Int32 → Int32 → XS → Prop) (Post : Int32 → XS → Prop) (K : XK) (x0 : Nat) (x1 : Int32) (x2 : Int32) (x3 : Int32) (x4 : Int32) (x5 : Int32) (x6 : Int32) (x7 : Int32) (u : XS) : Prop :=
  (x7 ≤ x4 →
    xw0_goesOn_B161 G32 Post K x0 x1 x2 x3 x4 x5 x6 u) ∧
  (¬ x7 ≤ x4 →
    K x0 = (1, 0) ∧
    xw0_at x0 x1 K u (fun r129 u129 =>
      xw0_at x0 x6 K u129 (fun r136 u136 =>
        xRule K r129 ∧
        xw9_isAhead r129 x2 r136 (0 : Int32) K u136 (fun r140 u140 =>
          (r140 = 0 →
            xw0_goesOn_B161 G32 Post K x0 x1 x2 x3 x4 x5 x6 u140) ∧
          (¬ r140 = 0 →
            xw0_hangs x0 x6 x4 ((x3 + x7) - x4) K u140 (fun u158 =>
              xw0_goesOn_B161 G32 Post K x0 x1 x2 x3 x4 x5 x6 u158))))))
def xw0_goesOn_L32_S (Post : Int32 → XS → Prop) (K : XK) (x0 : Nat) (x1 : Int32) (x2 : Int32) (x3 : Int32) (x4 : Int32) (R : Int32 → Int32 → XS → Prop) (x5 : Int32) (x6 : Int32) (u : XS) : Prop :=
  K x0 = (1, 0) ∧
  xw0_table x0 K u (fun r35 u35 =>
    K r35 = (1, 5) ∧
    ((xi u35 r35 1) ≤ x6 →
      Post x5 u35) ∧
    (¬ (xi u35 r35 1) ≤ x6 →
      xw0_isThere x0 x6 K u35 (fun r47 u47 =>
        (¬ r47 = 0 →
          xw0_at x0 x6 K u47 (fun r59 u59 =>
            xRule K r59 ∧
            ∃ b65, (xr u59 r59 1) = some b65 ∧
            ∃ n65, K b65 = (2, n65) ∧
            ∀ v66 : Int32, v66 = (nI n65) →
            (x4 < v66 →
              xw0_goesOn_B120 R Post K x0 x1 x2 x3 x4 x5 x6 v66 u59) ∧
            (¬ x4 < v66 →
              xw0_at x0 x6 K u59 (fun r78 u78 =>
                xw0_at x0 x1 K u78 (fun r84 u84 =>
                  xRule K r78 ∧
                  xw9_isAhead r78 (0 : Int32) r84 x2 K u84 (fun r88 u88 =>
                    (r88 = 0 →
                      xw0_goesOn_B120 R Post K x0 x1 x2 x3 x4 x5 x6 v66 u88) ∧
                    (¬ r88 = 0 →
                      (¬ v66 = x4 →
                        xw0_hangs x0 x1 (x2 + v66) x3 K u88 (fun u114 =>
                          xw0_goesOn_B161 R Post K x0 x1 x2 x3 x4 x5 x6 u114)) ∧
                      (v66 = x4 →
                        xw0_goesOn_B161 R Post K x0 x1 x2 x3 x4 x3 x6 u88)))))))) ∧
        (r47 = 0 →
          xw0_goesOn_B161 R Post K x0 x1 x2 x3 x4 x5 x6 u47))))
def xw0_goesOn_L32 (Post : Int32 → XS → Prop) (K : XK) (x0 : Nat) (x1 : Int32) (x2 : Int32) (x3 : Int32) (x4 : Int32) : Nat → Int32 → Int32 → XS → Prop
  | 0 => fun _ _ _ => False
  | n + 1 => fun x5 x6 u => xw0_goesOn_L32_S Post K x0 x1 x2 x3 x4 (xw0_goesOn_L32 Post K x0 x1 x2 x3 x4 n) x5 x6 u
/-- RaisedPress.goesOn(II)I -/
def xw0_goesOn (x0 : Nat) (x1 : Int32) (x2 : Int32) (K : XK) (u : XS) (Post : Int32 → XS → Prop) : Prop :=
  K x0 = (1, 0) ∧
  ∃ b9, (xr u x0 22) = some b9 ∧
  ∃ n9, K b9 = (2, n9) ∧
  vp_in (((3 : Int32) * x1) + x2) n9 ∧
  ∀ v10 : Int32, v10 = (xi u b9 (((3 : Int32) * x1) + x2).toNatClampNeg) →
  xw0_at x0 x1 K u (fun r13 u13 =>
    xRule K r13 ∧
    ∃ b19, (xr u13 r13 1) = some b19 ∧
    ∃ n19, K b19 = (2, n19) ∧
    ∀ v22 : Int32, v22 = ((nI n19) - x2) →
    ∃ n, xw0_goesOn_L32 Post K x0 x1 x2 v10 v22 n (2147483647 : Int32) (0 : Int32) u13)
set_option maxHeartbeats 4000000 in
set_option maxRecDepth 100000 in
theorem txw0_goesOn_B161 {X : JC} {D : va_G} {dA aK aV : Nat → Nat} {sz : Nat} {K : XK} {G32 : Int32 → Int32 → XS → Prop} {Post : Int32 → XS → Prop} {x0 : Nat} {x1 : Int32} {x2 : Int32} {x3 : Int32} {x4 : Int32} {x5 : Int32} {x6 : Int32} {u : XS} (hX : JX X yX0_goesOn.cls cX0_goesOn 8 (Option.some Jvm.ClassFile.FieldType.int) 2 44 0 0) (hY : JY X D dA aK aV (AX K sz)) (hG32 : ∀ (y5 : Int32) (y6 : Int32) (u : XS), G32 y5 y6 u → JJ X (AX K sz) (jj_Q X (va_Qi (fun (r : Int32) (w : XS) => Post r w) (jx_B D dA K) (AX K sz)) 0 0 (AX K sz)) 8 (XP D dA (AX K sz) K u) 0 0 32 [(0, .ref x0), (1, .int x1), (2, .int x2), (3, .int x3), (4, .int x4), (5, .int y5), (6, .int y6)] []) (h : xw0_goesOn_B161 G32 Post K x0 x1 x2 x3 x4 x5 x6  u) : JJ X (AX K sz) (jj_Q X (va_Qi (fun (r : Int32) (w : XS) => Post r w) (jx_B D dA K) (AX K sz)) 0 0 (AX K sz)) 8 (XP D dA (AX K sz) K u) 0 0 161 [(0, .ref x0), (1, .int x1), (2, .int x2), (3, .int x3), (4, .int x4), (5, .int x5), (6, .int x6)] [] := by
  unfold xw0_goesOn_B161 at h
  obtain ⟨v161, e161⟩ : ∃ y : Int32, y = x6 + (1 : Int32) := ⟨_, rfl⟩
  have h := h v161 e161
  refine jj_iinc (v := v161) (lv2 := [(0, .ref x0), (1, .int x1), (2, .int x2), (3, .int x3), (4, .int x4), (5, .int x5), (6, .int v161)]) hX dX0_goesOn_161 6 rfl (by rw [e161, ci_1]) (Nat.le_of_ble_eq_true rfl) [1, 2, 3, 4, 5, 6, 0] rfl 164 rfl ?_
  refine jj_goto hX dX0_goesOn_164 32 (by decide) ?_
  exact hG32 _ _ _ h
set_option maxHeartbeats 4000000 in
set_option maxRecDepth 100000 in
theorem txw0_goesOn_B120 {X : JC} {D : va_G} {dA aK aV : Nat → Nat} {sz : Nat} {K : XK} {G32 : Int32 → Int32 → XS → Prop} {Post : Int32 → XS → Prop} {x0 : Nat} {x1 : Int32} {x2 : Int32} {x3 : Int32} {x4 : Int32} {x5 : Int32} {x6 : Int32} {x7 : Int32} {u : XS} (hX : JX X yX0_goesOn.cls cX0_goesOn 8 (Option.some Jvm.ClassFile.FieldType.int) 2 44 0 0) (hY : JY X D dA aK aV (AX K sz)) (hG32 : ∀ (y5 : Int32) (y6 : Int32) (u : XS), G32 y5 y6 u → JJ X (AX K sz) (jj_Q X (va_Qi (fun (r : Int32) (w : XS) => Post r w) (jx_B D dA K) (AX K sz)) 0 0 (AX K sz)) 8 (XP D dA (AX K sz) K u) 0 0 32 [(0, .ref x0), (1, .int x1), (2, .int x2), (3, .int x3), (4, .int x4), (5, .int y5), (6, .int y6)] []) (h : xw0_goesOn_B120 G32 Post K x0 x1 x2 x3 x4 x5 x6 x7  u) : JJ X (AX K sz) (jj_Q X (va_Qi (fun (r : Int32) (w : XS) => Post r w) (jx_B D dA K) (AX K sz)) 0 0 (AX K sz)) 8 (XP D dA (AX K sz) K u) 0 0 120 [(0, .ref x0), (1, .int x1), (2, .int x2), (3, .int x3), (4, .int x4), (5, .int x5), (6, .int x6), (7, .int x7)] [] := by
  unfold xw0_goesOn_B120 at h
  refine jj_iload hX dX0_goesOn_120 7 rfl 122 rfl ?_
  refine jj_iload hX dX0_goesOn_122 4 rfl 124 rfl ?_
  refine jj_icmp_le hX dX0_goesOn_124 161 127 (by decide) rfl (fun c124 => ?_) (fun c124 => ?_)
  · have h := h.1 c124
    refine jj_sub (lv2 := [(0, .ref x0), (1, .int x1), (2, .int x2), (3, .int x3), (4, .int x4), (5, .int x5), (6, .int x6)]) [0, 1, 2, 3, 4, 5, 6] rfl ?_
    exact txw0_goesOn_B161 hX hY hG32 h
  · have h := h.2 c124
    refine jj_aload_n hX dX0_goesOn_127 0 rfl 128 rfl ?_
    refine jj_iload_n hX dX0_goesOn_128 1 rfl 129 rfl ?_
    obtain ⟨k129, h⟩ := h
    refine kxw0_at hX hY k129 q1090 (Nat.le_of_ble_eq_true rfl) (Nat.le_of_ble_eq_true rfl) (Nat.zero_le _) (Nat.zero_le _) (Nat.le_of_ble_eq_true rfl) dX0_goesOn_129 132 rfl h (fun r129 u129 h => ?_)
    refine jj_iload_n hX dX0_goesOn_132 2 rfl 133 rfl ?_
    refine jj_aload_n hX dX0_goesOn_133 0 rfl 134 rfl ?_
    refine jj_iload hX dX0_goesOn_134 6 rfl 136 rfl ?_
    refine kxw0_at hX hY k129 q1090 (Nat.le_of_ble_eq_true rfl) (Nat.le_of_ble_eq_true rfl) (Nat.zero_le _) (Nat.zero_le _) (Nat.le_of_ble_eq_true rfl) dX0_goesOn_136 139 rfl h (fun r136 u136 h => ?_)
    refine jj_iconst hX dX0_goesOn_139 ci_0 140 rfl ?_
    obtain ⟨k140, h⟩ := h
    refine kxw9_isAhead hX hY k140 q1387 (Nat.le_of_ble_eq_true rfl) (Nat.le_of_ble_eq_true rfl) (Nat.zero_le _) (Nat.zero_le _) (Nat.le_of_ble_eq_true rfl) dX0_goesOn_140 143 rfl h (fun r140 u140 hb140 h => ?_)
    refine jj_if_eq hX dX0_goesOn_143 161 146 (by decide) rfl (fun c143 => ?_) (fun c143 => ?_)
    · have h := h.1 c143
      refine jj_sub (lv2 := [(0, .ref x0), (1, .int x1), (2, .int x2), (3, .int x3), (4, .int x4), (5, .int x5), (6, .int x6)]) [0, 1, 2, 3, 4, 5, 6] rfl ?_
      exact txw0_goesOn_B161 hX hY hG32 h
    · have h := h.2 c143
      refine jj_aload_n hX dX0_goesOn_146 0 rfl 147 rfl ?_
      refine jj_iload hX dX0_goesOn_147 6 rfl 149 rfl ?_
      refine jj_iload hX dX0_goesOn_149 4 rfl 151 rfl ?_
      refine jj_iload_n hX dX0_goesOn_151 3 rfl 152 rfl ?_
      refine jj_iload hX dX0_goesOn_152 7 rfl 154 rfl ?_
      refine jj_iadd hX dX0_goesOn_154 155 rfl ?_
      refine jj_iload hX dX0_goesOn_155 4 rfl 157 rfl ?_
      refine jj_isub hX dX0_goesOn_157 158 rfl ?_
      refine kxw0_hangs hX hY k129 q1408 (Nat.le_of_ble_eq_true rfl) (Nat.le_of_ble_eq_true rfl) (Nat.zero_le _) (Nat.zero_le _) (Nat.le_of_ble_eq_true rfl) dX0_goesOn_158 161 rfl h (fun u158 h => ?_)
      refine jj_sub (lv2 := [(0, .ref x0), (1, .int x1), (2, .int x2), (3, .int x3), (4, .int x4), (5, .int x5), (6, .int x6)]) [0, 1, 2, 3, 4, 5, 6] rfl ?_
      exact txw0_goesOn_B161 hX hY hG32 h
set_option maxHeartbeats 4000000 in
set_option maxRecDepth 100000 in
theorem txw0_goesOn_L32 {X : JC} {D : va_G} {dA aK aV : Nat → Nat} {sz : Nat} {K : XK} {Post : Int32 → XS → Prop} {x0 : Nat} {x1 : Int32} {x2 : Int32} {x3 : Int32} {x4 : Int32} (hX : JX X yX0_goesOn.cls cX0_goesOn 8 (Option.some Jvm.ClassFile.FieldType.int) 2 44 0 0) (hY : JY X D dA aK aV (AX K sz)) : ∀ (n : Nat) (x5 : Int32) (x6 : Int32) (u : XS), xw0_goesOn_L32 Post K x0 x1 x2 x3 x4 n x5 x6 u → JJ X (AX K sz) (jj_Q X (va_Qi (fun (r : Int32) (w : XS) => Post r w) (jx_B D dA K) (AX K sz)) 0 0 (AX K sz)) 8 (XP D dA (AX K sz) K u) 0 0 32 [(0, .ref x0), (1, .int x1), (2, .int x2), (3, .int x3), (4, .int x4), (5, .int x5), (6, .int x6)] [] := by
  intro n
  induction n with
  | zero =>
    intro x5 x6 u h
    exact h.elim
  | succ n ih =>
    intro x5 x6 u h
    have h : xw0_goesOn_L32_S Post K x0 x1 x2 x3 x4 (xw0_goesOn_L32 Post K x0 x1 x2 x3 x4 n) x5 x6 u := h
    unfold xw0_goesOn_L32_S at h
    refine jj_iload hX dX0_goesOn_32 6 rfl 34 rfl ?_
    refine jj_aload_n hX dX0_goesOn_34 0 rfl 35 rfl ?_
    obtain ⟨k35, h⟩ := h
    refine kxw0_table hX hY k35 q879 (Nat.le_of_ble_eq_true rfl) (Nat.le_of_ble_eq_true rfl) (Nat.zero_le _) (Nat.zero_le _) (Nat.le_of_ble_eq_true rfl) dX0_goesOn_35 38 rfl h (fun r35 u35 h => ?_)
    obtain ⟨k38, h⟩ := h
    refine xgn5_1 hX hY k38 dX0_goesOn_38 nq279 41 rfl ?_
    refine jj_icmp_ge hX dX0_goesOn_41 167 44 (by decide) rfl (fun c41 => ?_) (fun c41 => ?_)
    · have h := h.1 c41
      refine jj_iload hX dX0_goesOn_167 5 rfl 169 rfl ?_
      exact jj_reti (post := (fun (r : Int32) (w : XS) => Post r w)) (u := u35) hX dX0_goesOn_169 (Nat.le_refl 0) (Nat.le_refl 0) jx_hB h
    · have h := h.2 c41
      refine jj_aload_n hX dX0_goesOn_44 0 rfl 45 rfl ?_
      refine jj_iload hX dX0_goesOn_45 6 rfl 47 rfl ?_
      refine kxw0_isThere hX hY k35 q1173 (Nat.le_of_ble_eq_true rfl) (Nat.le_of_ble_eq_true rfl) (Nat.zero_le _) (Nat.zero_le _) (Nat.le_of_ble_eq_true rfl) dX0_goesOn_47 50 rfl h (fun r47 u47 hb47 h => ?_)
      refine jj_if_ne hX dX0_goesOn_50 56 53 (by decide) rfl (fun c50 => ?_) (fun c50 => ?_)
      · have h := h.1 c50
        refine jj_aload_n hX dX0_goesOn_56 0 rfl 57 rfl ?_
        refine jj_iload hX dX0_goesOn_57 6 rfl 59 rfl ?_
        refine kxw0_at hX hY k35 q1090 (Nat.le_of_ble_eq_true rfl) (Nat.le_of_ble_eq_true rfl) (Nat.zero_le _) (Nat.zero_le _) (Nat.le_of_ble_eq_true rfl) dX0_goesOn_59 62 rfl h (fun r59 u59 h => ?_)
        obtain ⟨k62, h⟩ := h
        refine xgr_1 hX hY k62 dX0_goesOn_62 q777 65 rfl ?_
        obtain ⟨b65, g65, h⟩ := h
        refine jj_st (st2 := [.ref b65]) (by rw [va_rf_some g65]) ?_
        obtain ⟨n65, k65, h⟩ := h
        refine jx_alen hX hY.1 k65 dX0_goesOn_65 66 rfl ?_
        refine jj_topi (fun v66 e66 => ?_)
        have h := h v66 e66
        refine jj_istore (lv2 := [(0, .ref x0), (1, .int x1), (2, .int x2), (3, .int x3), (4, .int x4), (5, .int x5), (6, .int x6), (7, .int v66)]) hX dX0_goesOn_66 (Nat.le_of_ble_eq_true rfl) [1, 2, 3, 4, 5, 6, 7, 0] rfl 68 rfl ?_
        refine jj_iload hX dX0_goesOn_68 7 rfl 70 rfl ?_
        refine jj_iload hX dX0_goesOn_70 4 rfl 72 rfl ?_
        refine jj_icmp_gt hX dX0_goesOn_72 120 75 (by decide) rfl (fun c72 => ?_) (fun c72 => ?_)
        · have h := h.1 c72
          exact txw0_goesOn_B120 hX hY ih h
        · have h := h.2 c72
          refine jj_aload_n hX dX0_goesOn_75 0 rfl 76 rfl ?_
          refine jj_iload hX dX0_goesOn_76 6 rfl 78 rfl ?_
          refine kxw0_at hX hY k35 q1090 (Nat.le_of_ble_eq_true rfl) (Nat.le_of_ble_eq_true rfl) (Nat.zero_le _) (Nat.zero_le _) (Nat.le_of_ble_eq_true rfl) dX0_goesOn_78 81 rfl h (fun r78 u78 h => ?_)
          refine jj_iconst hX dX0_goesOn_81 ci_0 82 rfl ?_
          refine jj_aload_n hX dX0_goesOn_82 0 rfl 83 rfl ?_
          refine jj_iload_n hX dX0_goesOn_83 1 rfl 84 rfl ?_
          refine kxw0_at hX hY k35 q1090 (Nat.le_of_ble_eq_true rfl) (Nat.le_of_ble_eq_true rfl) (Nat.zero_le _) (Nat.zero_le _) (Nat.le_of_ble_eq_true rfl) dX0_goesOn_84 87 rfl h (fun r84 u84 h => ?_)
          refine jj_iload_n hX dX0_goesOn_87 2 rfl 88 rfl ?_
          obtain ⟨k88, h⟩ := h
          refine kxw9_isAhead hX hY k88 q1387 (Nat.le_of_ble_eq_true rfl) (Nat.le_of_ble_eq_true rfl) (Nat.zero_le _) (Nat.zero_le _) (Nat.le_of_ble_eq_true rfl) dX0_goesOn_88 91 rfl h (fun r88 u88 hb88 h => ?_)
          refine jj_if_eq hX dX0_goesOn_91 120 94 (by decide) rfl (fun c91 => ?_) (fun c91 => ?_)
          · have h := h.1 c91
            exact txw0_goesOn_B120 hX hY ih h
          · have h := h.2 c91
            refine jj_iload hX dX0_goesOn_94 7 rfl 96 rfl ?_
            refine jj_iload hX dX0_goesOn_96 4 rfl 98 rfl ?_
            refine jj_icmp_ne hX dX0_goesOn_98 107 101 (by decide) rfl (fun c98 => ?_) (fun c98 => ?_)
            · have h := h.1 c98
              refine jj_aload_n hX dX0_goesOn_107 0 rfl 108 rfl ?_
              refine jj_iload_n hX dX0_goesOn_108 1 rfl 109 rfl ?_
              refine jj_iload_n hX dX0_goesOn_109 2 rfl 110 rfl ?_
              refine jj_iload hX dX0_goesOn_110 7 rfl 112 rfl ?_
              refine jj_iadd hX dX0_goesOn_112 113 rfl ?_
              refine jj_iload_n hX dX0_goesOn_113 3 rfl 114 rfl ?_
              refine kxw0_hangs hX hY k35 q1408 (Nat.le_of_ble_eq_true rfl) (Nat.le_of_ble_eq_true rfl) (Nat.zero_le _) (Nat.zero_le _) (Nat.le_of_ble_eq_true rfl) dX0_goesOn_114 117 rfl h (fun u114 h => ?_)
              refine jj_goto hX dX0_goesOn_117 161 (by decide) ?_
              refine jj_sub (lv2 := [(0, .ref x0), (1, .int x1), (2, .int x2), (3, .int x3), (4, .int x4), (5, .int x5), (6, .int x6)]) [0, 1, 2, 3, 4, 5, 6] rfl ?_
              exact txw0_goesOn_B161 hX hY ih h
            · have h := h.2 c98
              refine jj_iload_n hX dX0_goesOn_101 3 rfl 102 rfl ?_
              refine jj_istore (lv2 := [(0, .ref x0), (1, .int x1), (2, .int x2), (3, .int x3), (4, .int x4), (5, .int x3), (6, .int x6)]) hX dX0_goesOn_102 (Nat.le_of_ble_eq_true rfl) [1, 2, 3, 4, 5, 0, 6] rfl 104 rfl ?_
              refine jj_goto hX dX0_goesOn_104 161 (by decide) ?_
              exact txw0_goesOn_B161 hX hY ih h
      · have h := h.2 c50
        refine jj_goto hX dX0_goesOn_53 161 (by decide) ?_
        exact txw0_goesOn_B161 hX hY ih h
set_option maxHeartbeats 4000000 in
set_option maxRecDepth 100000 in
theorem mxw0_goesOn (l : Launch) (hfl : l.stackTraces = false) (D : va_G) (dA aK aV : Nat → Nat) (x0 : Nat) (x1 : Int32) (x2 : Int32) (K : XK) (u : XS) (Post : Int32 → XS → Prop) (h : xw0_goesOn x0 x1 x2 K u Post) (sz : Nat) : Met l yX0_goesOn (ws_ yX0_goesOn cX0_goesOn 8 (Option.some Jvm.ClassFile.FieldType.int)) (jx_rm 2 44 0 0) (jx_Pc D dA aK aV K u sz [.ref x0, .int x1, .int x2]) (va_Qi (fun (r : Int32) (w : XS) => Post r w) (jx_B D dA K) (AX K sz)) 0 0 (AX K sz) := by
  refine jx_start hfl [.ref x0, .int x1, .int x2] [(0, .ref x0), (1, .int x1), (2, .int x2)] (by decide) (Nat.le_of_ble_eq_true rfl) rfl (fun X hX hY hin => ?_)
  unfold xw0_goesOn at h
  refine jj_aload_n hX dX0_goesOn_0 0 rfl 1 rfl ?_
  obtain ⟨k1, h⟩ := h
  refine xg0_22 hX hY k1 dX0_goesOn_1 q433 4 rfl ?_
  refine jj_iconst hX dX0_goesOn_4 ci_3 5 rfl ?_
  refine jj_iload_n hX dX0_goesOn_5 1 rfl 6 rfl ?_
  refine jj_imul hX dX0_goesOn_6 7 rfl ?_
  refine jj_iload_n hX dX0_goesOn_7 2 rfl 8 rfl ?_
  refine jj_iadd hX dX0_goesOn_8 9 rfl ?_
  obtain ⟨b9, g9, h⟩ := h
  refine jj_st (st2 := [.int (((3 : Int32) * x1) + x2), .ref b9]) (by rw [va_rf_some g9]) ?_
  obtain ⟨n9, k9, h⟩ := h
  obtain ⟨hi9, h⟩ := h
  refine jx_iald hX hY.1 k9 _ rfl hi9 dX0_goesOn_9 10 rfl ?_
  refine jj_topi (fun v10 e10 => ?_)
  have h := h v10 e10
  refine jj_istore_n (lv2 := [(0, .ref x0), (1, .int x1), (2, .int x2), (3, .int v10)]) hX dX0_goesOn_10 (Nat.le_of_ble_eq_true rfl) [1, 2, 3, 0] rfl 11 rfl ?_
  refine jj_aload_n hX dX0_goesOn_11 0 rfl 12 rfl ?_
  refine jj_iload_n hX dX0_goesOn_12 1 rfl 13 rfl ?_
  refine kxw0_at hX hY k1 q1090 (Nat.le_of_ble_eq_true rfl) (Nat.le_of_ble_eq_true rfl) (Nat.zero_le _) (Nat.zero_le _) (Nat.le_of_ble_eq_true rfl) dX0_goesOn_13 16 rfl h (fun r13 u13 h => ?_)
  obtain ⟨k16, h⟩ := h
  refine xgr_1 hX hY k16 dX0_goesOn_16 q777 19 rfl ?_
  obtain ⟨b19, g19, h⟩ := h
  refine jj_st (st2 := [.ref b19]) (by rw [va_rf_some g19]) ?_
  obtain ⟨n19, k19, h⟩ := h
  refine jx_alen hX hY.1 k19 dX0_goesOn_19 20 rfl ?_
  refine jj_iload_n hX dX0_goesOn_20 2 rfl 21 rfl ?_
  refine jj_isub hX dX0_goesOn_21 22 rfl ?_
  refine jj_topi (fun v22 e22 => ?_)
  have h := h v22 e22
  refine jj_istore (lv2 := [(0, .ref x0), (1, .int x1), (2, .int x2), (3, .int v10), (4, .int v22)]) hX dX0_goesOn_22 (Nat.le_of_ble_eq_true rfl) [1, 2, 3, 4, 0] rfl 24 rfl ?_
  refine jj_ldcw (v := 2147483647) hX dX0_goesOn_24 q1308 27 rfl ?_
  refine jj_istore (lv2 := [(0, .ref x0), (1, .int x1), (2, .int x2), (3, .int v10), (4, .int v22), (5, .int (2147483647 : Int32))]) hX dX0_goesOn_27 (Nat.le_of_ble_eq_true rfl) [1, 2, 3, 4, 5, 0] rfl 29 rfl ?_
  refine jj_iconst hX dX0_goesOn_29 ci_0 30 rfl ?_
  refine jj_istore (lv2 := [(0, .ref x0), (1, .int x1), (2, .int x2), (3, .int v10), (4, .int v22), (5, .int (2147483647 : Int32)), (6, .int (0 : Int32))]) hX dX0_goesOn_30 (Nat.le_of_ble_eq_true rfl) [1, 2, 3, 4, 5, 6, 0] rfl 32 rfl ?_
  obtain ⟨n9, h⟩ := h
  exact txw0_goesOn_L32 hX hY n9 _ _ _ h
theorem hd_xw0_goesOn : yX0_goesOn.cls ≠ "java/lang/invoke/MethodHandle" ∧ yX0_goesOn.cls ≠ "java/lang/invoke/VarHandle" ∧ (parseMethodDescriptor yX0_goesOn.desc).map (fun d => d.parameters.length) = some 2 := by decide +kernel
theorem kxw0_goesOn {X : JC} {A : Nat → Prop} {Q : State → Prop} {nL k n pc : Nat} {lv : List (Nat × Value)} {st : List Value} {own : String} {cc : ByteArray} {ret : Option FieldType} {F LL mc ms ix : Nat} {D : va_G} {dA aK aV : Nat → Nat} {K : XK} {u : XS} {x0 : Nat} {x1 : Int32} {x2 : Int32} {Post : Int32 → XS → Prop} (hX : JX X own cc nL ret F LL mc ms) (hY : JY X D dA aK aV A) (h1a : K x0 = (1, 0)) (hlk : (Cond.methodLink own ix yX0_goesOn) ∈ lw_all) (hF : 2 + 1 ≤ F) (hL : 8 + (8 + 11) + 44 ≤ LL) (hk : k ≤ mc) (hk2 : n ≤ ms) (hw : (st.map fun v => v.category).sum ≤ 8) (d : decode cc pc = .ok (.invokevirtual ix, 3)) (q : Nat) (hq : pc + 3 = q) (h : xw0_goesOn x0 x1 x2 K u  Post) (kk : ∀ (r : Int32) (u2 : XS), Post r u2 → JJ X A Q nL (XP D dA A K u2) k n q lv (.int r :: st)) : JJ X A Q nL (XP D dA A K u) k n pc lv (.int x2 :: .int x1 :: .ref x0 :: st) :=
  jx_callVi (na := 2) (As := [.int x1, .int x2]) hX hY jf0 h1a (fun sz => mxw0_goesOn (jj_l X) hY.2.2.2.2 D dA aK aV x0 x1 x2 K u  Post h sz) hlk q1418 qs55 q120 q1419 ⟨rfl, hd_xw0_goesOn⟩ rfl rfl hw hF hL hk hk2 d q hq kk
theorem knxw0_goesOn {X : JC} {A : Nat → Prop} {Q : State → Prop} {nL k n pc : Nat} {lv : List (Nat × Value)} {st : List Value} {own : String} {cc : ByteArray} {ret : Option FieldType} {F LL mc ms ix : Nat} {D : va_G} {dA aK aV : Nat → Nat} {K : XK} {u : XS} {x0 : Nat} {x1 : Int32} {x2 : Int32} {host : String} {Post : Int32 → XS → Prop} (hX : JX X own cc nL ret F LL mc ms) (hY : JY X D dA aK aV A) (h1a : K x0 = (1, 0)) (hlk : (Cond.methodLinkNest own ix yX0_goesOn host) ∈ jx_nest) (hF : 2 + 1 ≤ F) (hL : 8 + (8 + 11) + 44 ≤ LL) (hk : k ≤ mc) (hk2 : n ≤ ms) (hw : (st.map fun v => v.category).sum ≤ 8) (d : decode cc pc = .ok (.invokevirtual ix, 3)) (q : Nat) (hq : pc + 3 = q) (h : xw0_goesOn x0 x1 x2 K u  Post) (kk : ∀ (r : Int32) (u2 : XS), Post r u2 → JJ X A Q nL (XP D dA A K u2) k n q lv (.int r :: st)) : JJ X A Q nL (XP D dA A K u) k n pc lv (.int x2 :: .int x1 :: .ref x0 :: st) :=
  jx_callNi (na := 2) (As := [.int x1, .int x2]) hX hY jf0 h1a (fun sz => mxw0_goesOn (jj_l X) hY.2.2.2.2 D dA aK aV x0 x1 x2 K u  Post h sz) hlk q1418 qs55 q120 q1419 hd_xw0_goesOn rfl rfl hw hF hL hk hk2 d q hq kk
def xw0_hanging_L183_S (Post : Int32 → XS → Prop) (K : XK) (x0 : Nat) (R : Int32 → Int32 → XS → Prop) (x1 : Int32) (x2 : Int32) (u : XS) : Prop :=
  (x2 < 0 →
    (¬ x1 = (2147483647 : Int32) →
      Post x1 u) ∧
    (x1 = (2147483647 : Int32) →
      Post (-1 : Int32) u)) ∧
  (¬ x2 < 0 →
    K x0 = (1, 0) ∧
    ∃ b193, (xr u x0 23) = some b193 ∧
    ∃ n193, K b193 = (6, n193) ∧
    vp_in x2 n193 ∧
    ∀ u193 : XS, u193 = xsi u b193 x2.toNatClampNeg (vp_nar .boolean (1 : Int32)) →
    xw0_goesOn x0 (x2 / (3 : Int32)) (x2 - x2 / (3 : Int32) * (3 : Int32)) K u193 (fun r202 u202 =>
      jw_min x1 r202 (fun r205 =>
        xw0_nearest x0 K u202 (fun r210 u210 =>
          R r205 r210 u210))))
def xw0_hanging_L183 (Post : Int32 → XS → Prop) (K : XK) (x0 : Nat) : Nat → Int32 → Int32 → XS → Prop
  | 0 => fun _ _ _ => False
  | n + 1 => fun x1 x2 u => xw0_hanging_L183_S Post K x0 (xw0_hanging_L183 Post K x0 n) x1 x2 u
def xw0_hanging_B166 (G39 : Int32 → Int32 → XS → Prop) (G52 : Int32 → Int32 → XS → Prop) (Post : Int32 → XS → Prop) (K : XK) (x0 : Nat) (x1 : Int32) (x2 : Int32) (x3 : Int32) (u : XS) : Prop :=
  ∀ v166 : Int32, v166 = x3 + (1 : Int32) →
  G52 x1 v166 u
def xw0_hanging_L52_S (G39 : Int32 → Int32 → XS → Prop) (Post : Int32 → XS → Prop) (K : XK) (x0 : Nat) (x2 : Int32) (R : Int32 → Int32 → XS → Prop) (x1 : Int32) (x3 : Int32) (u : XS) : Prop :=
  K x0 = (1, 0) ∧
  xw0_table x0 K u (fun r54 u54 =>
    K r54 = (1, 5) ∧
    ((xi u54 r54 1) ≤ x3 →
      ∀ v172 : Int32, v172 = x2 + (1 : Int32) →
      G39 x1 v172 u54) ∧
    (¬ (xi u54 r54 1) ≤ x3 →
      (x2 = x3 →
        xw0_hanging_B166 G39 R Post K x0 x1 x2 x3 u54) ∧
      (¬ x2 = x3 →
        xw0_isThere x0 x2 K u54 (fun r70 u70 =>
          (r70 = 0 →
            xw0_hanging_B166 G39 R Post K x0 x1 x2 x3 u70) ∧
          (¬ r70 = 0 →
            xw0_isThere x0 x3 K u70 (fun r78 u78 =>
              (r78 = 0 →
                xw0_hanging_B166 G39 R Post K x0 x1 x2 x3 u78) ∧
              (¬ r78 = 0 →
                xw0_at x0 x2 K u78 (fun r86 u86 =>
                  xw0_at x0 x3 K u86 (fun r92 u92 =>
                    xRule K r86 ∧
                    xw9_isAhead r86 (0 : Int32) r92 (0 : Int32) K u92 (fun r96 u96 =>
                      (¬ r96 = 0 →
                        xw0_at x0 x2 K u96 (fun r107 u107 =>
                          xRule K r107 ∧
                          ∃ b113, (xr u107 r107 1) = some b113 ∧
                          ∃ n113, K b113 = (2, n113) ∧
                          xw0_at x0 x3 K u107 (fun r116 u116 =>
                            xRule K r116 ∧
                            ∃ b122, (xr u116 r116 1) = some b122 ∧
                            ∃ n122, K b122 = (2, n122) ∧
                            (¬ (nI n113) = (nI n122) →
                              xw0_at x0 x2 K u116 (fun r147 u147 =>
                                xRule K r147 ∧
                                ∃ b153, (xr u147 r147 1) = some b153 ∧
                                ∃ n153, K b153 = (2, n153) ∧
                                xw0_at x0 x3 K u147 (fun r156 u156 =>
                                  xRule K r156 ∧
                                  ∃ b162, (xr u156 r156 1) = some b162 ∧
                                  ∃ n162, K b162 = (2, n162) ∧
                                  xw0_hangs x0 x3 (nI n153) (nI n162) K u156 (fun u163 =>
                                    xw0_hanging_B166 G39 R Post K x0 x1 x2 x3 u163)))) ∧
                            ((nI n113) = (nI n122) →
                              xw0_at x0 x3 K u116 (fun r129 u129 =>
                                xRule K r129 ∧
                                ∃ b135, (xr u129 r129 1) = some b135 ∧
                                ∃ n135, K b135 = (2, n135) ∧
                                jw_min x1 (nI n135) (fun r136 =>
                                  xw0_hanging_B166 G39 R Post K x0 r136 x2 x3 u129)))))) ∧
                      (r96 = 0 →
                        xw0_hanging_B166 G39 R Post K x0 x1 x2 x3 u96)))))))))))
def xw0_hanging_L52 (G39 : Int32 → Int32 → XS → Prop) (Post : Int32 → XS → Prop) (K : XK) (x0 : Nat) (x2 : Int32) : Nat → Int32 → Int32 → XS → Prop
  | 0 => fun _ _ _ => False
  | n + 1 => fun x1 x3 u => xw0_hanging_L52_S G39 Post K x0 x2 (xw0_hanging_L52 G39 Post K x0 x2 n) x1 x3 u
def xw0_hanging_L39_S (Post : Int32 → XS → Prop) (K : XK) (x0 : Nat) (R : Int32 → Int32 → XS → Prop) (x1 : Int32) (x2 : Int32) (u : XS) : Prop :=
  K x0 = (1, 0) ∧
  xw0_table x0 K u (fun r41 u41 =>
    K r41 = (1, 5) ∧
    ((xi u41 r41 1) ≤ x2 →
      xw0_nearest x0 K u41 (fun r179 u179 =>
        ∃ n, xw0_hanging_L183 Post K x0 n x1 r179 u179)) ∧
    (¬ (xi u41 r41 1) ≤ x2 →
      ∃ n, xw0_hanging_L52 R Post K x0 x2 n x1 (0 : Int32) u41))
def xw0_hanging_L39 (Post : Int32 → XS → Prop) (K : XK) (x0 : Nat) : Nat → Int32 → Int32 → XS → Prop
  | 0 => fun _ _ _ => False
  | n + 1 => fun x1 x2 u => xw0_hanging_L39_S Post K x0 (xw0_hanging_L39 Post K x0 n) x1 x2 u
def xw0_hanging_L6_S (Post : Int32 → XS → Prop) (K : XK) (x0 : Nat) (x1 : Int32) (R : Int32 → XS → Prop) (x2 : Int32) (u : XS) : Prop :=
  K x0 = (1, 0) ∧
  ∃ b11, (xr u x0 22) = some b11 ∧
  ∃ n11, K b11 = (2, n11) ∧
  ((nI n11) ≤ x2 →
    ∃ n, xw0_hanging_L39 Post K x0 n x1 (0 : Int32) u) ∧
  (¬ (nI n11) ≤ x2 →
    ∃ b23, (xr u x0 22) = some b23 ∧
    ∃ n23, K b23 = (2, n23) ∧
    vp_in x2 n23 ∧
    ∀ u23 : XS, u23 = xsi u b23 x2.toNatClampNeg (2147483647 : Int32) →
    ∃ b30, (xr u23 x0 23) = some b30 ∧
    ∃ n30, K b30 = (6, n30) ∧
    vp_in x2 n30 ∧
    ∀ u30 : XS, u30 = xsi u23 b30 x2.toNatClampNeg (vp_nar .boolean (0 : Int32)) →
    ∀ v31 : Int32, v31 = x2 + (1 : Int32) →
    R v31 u30)
def xw0_hanging_L6 (Post : Int32 → XS → Prop) (K : XK) (x0 : Nat) (x1 : Int32) : Nat → Int32 → XS → Prop
  | 0 => fun _ _ => False
  | n + 1 => fun x2 u => xw0_hanging_L6_S Post K x0 x1 (xw0_hanging_L6 Post K x0 x1 n) x2 u
/-- RaisedPress.hanging()I -/
def xw0_hanging (x0 : Nat) (K : XK) (u : XS) (Post : Int32 → XS → Prop) : Prop :=
  ∃ n, xw0_hanging_L6 Post K x0 (2147483647 : Int32) n (0 : Int32) u
set_option maxHeartbeats 4000000 in
set_option maxRecDepth 100000 in
theorem txw0_hanging_L183 {X : JC} {D : va_G} {dA aK aV : Nat → Nat} {sz : Nat} {K : XK} {Post : Int32 → XS → Prop} {x0 : Nat} (hX : JX X yX0_hanging.cls cX0_hanging 4 (Option.some Jvm.ClassFile.FieldType.int) 3 71 0 0) (hY : JY X D dA aK aV (AX K sz)) : ∀ (n : Nat) (x1 : Int32) (x2 : Int32) (u : XS), xw0_hanging_L183 Post K x0 n x1 x2 u → JJ X (AX K sz) (jj_Q X (va_Qi (fun (r : Int32) (w : XS) => Post r w) (jx_B D dA K) (AX K sz)) 0 0 (AX K sz)) 4 (XP D dA (AX K sz) K u) 0 0 183 [(0, .ref x0), (1, .int x1), (2, .int x2)] [] := by
  intro n
  induction n with
  | zero =>
    intro x1 x2 u h
    exact h.elim
  | succ n ih =>
    intro x1 x2 u h
    have h : xw0_hanging_L183_S Post K x0 (xw0_hanging_L183 Post K x0 n) x1 x2 u := h
    unfold xw0_hanging_L183_S at h
    refine jj_iload_n hX dX0_hanging_183 2 rfl 184 rfl ?_
    refine jj_if_lt hX dX0_hanging_184 217 187 (by decide) rfl (fun c184 => ?_) (fun c184 => ?_)
    · have h := h.1 c184
      refine jj_iload_n hX dX0_hanging_217 1 rfl 218 rfl ?_
      refine jj_ldcw (v := 2147483647) hX dX0_hanging_218 q1308 221 rfl ?_
      refine jj_icmp_ne hX dX0_hanging_221 228 224 (by decide) rfl (fun c221 => ?_) (fun c221 => ?_)
      · have h := h.1 c221
        refine jj_iload_n hX dX0_hanging_228 1 rfl 229 rfl ?_
        exact jj_reti (post := (fun (r : Int32) (w : XS) => Post r w)) (u := u) hX dX0_hanging_229 (Nat.le_refl 0) (Nat.le_refl 0) jx_hB h
      · have h := h.2 c221
        refine jj_iconst hX dX0_hanging_224 ci_m1 225 rfl ?_
        refine jj_goto hX dX0_hanging_225 229 (by decide) ?_
        exact jj_reti (post := (fun (r : Int32) (w : XS) => Post r w)) (u := u) hX dX0_hanging_229 (Nat.le_refl 0) (Nat.le_refl 0) jx_hB h
    · have h := h.2 c184
      refine jj_aload_n hX dX0_hanging_187 0 rfl 188 rfl ?_
      obtain ⟨k188, h⟩ := h
      refine xg0_23 hX hY k188 dX0_hanging_188 q434 191 rfl ?_
      refine jj_iload_n hX dX0_hanging_191 2 rfl 192 rfl ?_
      refine jj_iconst hX dX0_hanging_192 ci_1 193 rfl ?_
      obtain ⟨b193, g193, h⟩ := h
      refine jj_st (st2 := [.int (1 : Int32), .int x2, .ref b193]) (by rw [va_rf_some g193]) ?_
      obtain ⟨n193, k193, h⟩ := h
      obtain ⟨hi193, h⟩ := h
      refine jx_zast hX hY.1 k193 _ rfl hi193 dX0_hanging_193 194 rfl (fun u193 e193 => ?_)
      have h := h u193 e193
      refine jj_iload_n hX dX0_hanging_194 1 rfl 195 rfl ?_
      refine jj_aload_n hX dX0_hanging_195 0 rfl 196 rfl ?_
      refine jj_iload_n hX dX0_hanging_196 2 rfl 197 rfl ?_
      refine jj_iconst hX dX0_hanging_197 ci_3 198 rfl ?_
      refine jj_idiv hX dX0_hanging_198 (by decide) 199 rfl ?_
      refine jj_iload_n hX dX0_hanging_199 2 rfl 200 rfl ?_
      refine jj_iconst hX dX0_hanging_200 ci_3 201 rfl ?_
      refine jj_irem hX dX0_hanging_201 (by decide) 202 rfl ?_
      refine kxw0_goesOn hX hY k188 q1416 (Nat.le_of_ble_eq_true rfl) (Nat.le_of_ble_eq_true rfl) (Nat.zero_le _) (Nat.zero_le _) (Nat.le_of_ble_eq_true rfl) dX0_hanging_202 205 rfl h (fun r202 u202 h => ?_)
      refine kjw_min hX XP.keeps q1239 (Nat.le_of_ble_eq_true rfl) (Nat.le_of_ble_eq_true rfl) (Nat.zero_le _) (Nat.zero_le _) (Nat.le_of_ble_eq_true rfl) dX0_hanging_205 208 rfl h (fun r205 h => ?_)
      refine jj_istore_n (lv2 := [(0, .ref x0), (1, .int r205)]) hX dX0_hanging_208 (Nat.le_of_ble_eq_true rfl) [1, 0] rfl 209 rfl ?_
      refine jj_aload_n hX dX0_hanging_209 0 rfl 210 rfl ?_
      refine kxw0_nearest hX hY k188 q1412 (Nat.le_of_ble_eq_true rfl) (Nat.le_of_ble_eq_true rfl) (Nat.zero_le _) (Nat.zero_le _) (Nat.le_of_ble_eq_true rfl) dX0_hanging_210 213 rfl h (fun r210 u210 h => ?_)
      refine jj_istore_n (lv2 := [(0, .ref x0), (1, .int r205), (2, .int r210)]) hX dX0_hanging_213 (Nat.le_of_ble_eq_true rfl) [1, 2, 0] rfl 214 rfl ?_
      refine jj_goto hX dX0_hanging_214 183 (by decide) ?_
      exact ih _ _ _ h
set_option maxHeartbeats 4000000 in
set_option maxRecDepth 100000 in
theorem txw0_hanging_B166 {X : JC} {D : va_G} {dA aK aV : Nat → Nat} {sz : Nat} {K : XK} {G39 : Int32 → Int32 → XS → Prop} {G52 : Int32 → Int32 → XS → Prop} {Post : Int32 → XS → Prop} {x0 : Nat} {x1 : Int32} {x2 : Int32} {x3 : Int32} {u : XS} (hX : JX X yX0_hanging.cls cX0_hanging 4 (Option.some Jvm.ClassFile.FieldType.int) 3 71 0 0) (hY : JY X D dA aK aV (AX K sz)) (hG39 : ∀ (y1 : Int32) (y2 : Int32) (u : XS), G39 y1 y2 u → JJ X (AX K sz) (jj_Q X (va_Qi (fun (r : Int32) (w : XS) => Post r w) (jx_B D dA K) (AX K sz)) 0 0 (AX K sz)) 4 (XP D dA (AX K sz) K u) 0 0 39 [(0, .ref x0), (1, .int y1), (2, .int y2)] []) (hG52 : ∀ (y1 : Int32) (y3 : Int32) (u : XS), G52 y1 y3 u → JJ X (AX K sz) (jj_Q X (va_Qi (fun (r : Int32) (w : XS) => Post r w) (jx_B D dA K) (AX K sz)) 0 0 (AX K sz)) 4 (XP D dA (AX K sz) K u) 0 0 52 [(0, .ref x0), (1, .int y1), (2, .int x2), (3, .int y3)] []) (h : xw0_hanging_B166 G39 G52 Post K x0 x1 x2 x3  u) : JJ X (AX K sz) (jj_Q X (va_Qi (fun (r : Int32) (w : XS) => Post r w) (jx_B D dA K) (AX K sz)) 0 0 (AX K sz)) 4 (XP D dA (AX K sz) K u) 0 0 166 [(0, .ref x0), (1, .int x1), (2, .int x2), (3, .int x3)] [] := by
  unfold xw0_hanging_B166 at h
  obtain ⟨v166, e166⟩ : ∃ y : Int32, y = x3 + (1 : Int32) := ⟨_, rfl⟩
  have h := h v166 e166
  refine jj_iinc (v := v166) (lv2 := [(0, .ref x0), (1, .int x1), (2, .int x2), (3, .int v166)]) hX dX0_hanging_166 3 rfl (by rw [e166, ci_1]) (Nat.le_of_ble_eq_true rfl) [1, 2, 3, 0] rfl 169 rfl ?_
  refine jj_goto hX dX0_hanging_169 52 (by decide) ?_
  exact hG52 _ _ _ h
set_option maxHeartbeats 4000000 in
set_option maxRecDepth 100000 in
theorem txw0_hanging_L52 {X : JC} {D : va_G} {dA aK aV : Nat → Nat} {sz : Nat} {K : XK} {G39 : Int32 → Int32 → XS → Prop} {Post : Int32 → XS → Prop} {x0 : Nat} {x2 : Int32} (hX : JX X yX0_hanging.cls cX0_hanging 4 (Option.some Jvm.ClassFile.FieldType.int) 3 71 0 0) (hY : JY X D dA aK aV (AX K sz)) (hG39 : ∀ (y1 : Int32) (y2 : Int32) (u : XS), G39 y1 y2 u → JJ X (AX K sz) (jj_Q X (va_Qi (fun (r : Int32) (w : XS) => Post r w) (jx_B D dA K) (AX K sz)) 0 0 (AX K sz)) 4 (XP D dA (AX K sz) K u) 0 0 39 [(0, .ref x0), (1, .int y1), (2, .int y2)] []) : ∀ (n : Nat) (x1 : Int32) (x3 : Int32) (u : XS), xw0_hanging_L52 G39 Post K x0 x2 n x1 x3 u → JJ X (AX K sz) (jj_Q X (va_Qi (fun (r : Int32) (w : XS) => Post r w) (jx_B D dA K) (AX K sz)) 0 0 (AX K sz)) 4 (XP D dA (AX K sz) K u) 0 0 52 [(0, .ref x0), (1, .int x1), (2, .int x2), (3, .int x3)] [] := by
  intro n
  induction n with
  | zero =>
    intro x1 x3 u h
    exact h.elim
  | succ n ih =>
    intro x1 x3 u h
    have h : xw0_hanging_L52_S G39 Post K x0 x2 (xw0_hanging_L52 G39 Post K x0 x2 n) x1 x3 u := h
    unfold xw0_hanging_L52_S at h
    refine jj_iload_n hX dX0_hanging_52 3 rfl 53 rfl ?_
    refine jj_aload_n hX dX0_hanging_53 0 rfl 54 rfl ?_
    obtain ⟨k54, h⟩ := h
    refine kxw0_table hX hY k54 q879 (Nat.le_of_ble_eq_true rfl) (Nat.le_of_ble_eq_true rfl) (Nat.zero_le _) (Nat.zero_le _) (Nat.le_of_ble_eq_true rfl) dX0_hanging_54 57 rfl h (fun r54 u54 h => ?_)
    obtain ⟨k57, h⟩ := h
    refine xgn5_1 hX hY k57 dX0_hanging_57 nq279 60 rfl ?_
    refine jj_icmp_ge hX dX0_hanging_60 172 63 (by decide) rfl (fun c60 => ?_) (fun c60 => ?_)
    · have h := h.1 c60
      obtain ⟨v172, e172⟩ : ∃ y : Int32, y = x2 + (1 : Int32) := ⟨_, rfl⟩
      have h := h v172 e172
      refine jj_iinc (v := v172) (lv2 := [(0, .ref x0), (1, .int x1), (2, .int v172), (3, .int x3)]) hX dX0_hanging_172 2 rfl (by rw [e172, ci_1]) (Nat.le_of_ble_eq_true rfl) [1, 2, 0, 3] rfl 175 rfl ?_
      refine jj_goto hX dX0_hanging_175 39 (by decide) ?_
      refine jj_sub (lv2 := [(0, .ref x0), (1, .int x1), (2, .int v172)]) [0, 1, 2] rfl ?_
      exact hG39 _ _ _ h
    · have h := h.2 c60
      refine jj_iload_n hX dX0_hanging_63 2 rfl 64 rfl ?_
      refine jj_iload_n hX dX0_hanging_64 3 rfl 65 rfl ?_
      refine jj_icmp_eq hX dX0_hanging_65 166 68 (by decide) rfl (fun c65 => ?_) (fun c65 => ?_)
      · have h := h.1 c65
        exact txw0_hanging_B166 hX hY hG39 ih h
      · have h := h.2 c65
        refine jj_aload_n hX dX0_hanging_68 0 rfl 69 rfl ?_
        refine jj_iload_n hX dX0_hanging_69 2 rfl 70 rfl ?_
        refine kxw0_isThere hX hY k54 q1173 (Nat.le_of_ble_eq_true rfl) (Nat.le_of_ble_eq_true rfl) (Nat.zero_le _) (Nat.zero_le _) (Nat.le_of_ble_eq_true rfl) dX0_hanging_70 73 rfl h (fun r70 u70 hb70 h => ?_)
        refine jj_if_eq hX dX0_hanging_73 166 76 (by decide) rfl (fun c73 => ?_) (fun c73 => ?_)
        · have h := h.1 c73
          exact txw0_hanging_B166 hX hY hG39 ih h
        · have h := h.2 c73
          refine jj_aload_n hX dX0_hanging_76 0 rfl 77 rfl ?_
          refine jj_iload_n hX dX0_hanging_77 3 rfl 78 rfl ?_
          refine kxw0_isThere hX hY k54 q1173 (Nat.le_of_ble_eq_true rfl) (Nat.le_of_ble_eq_true rfl) (Nat.zero_le _) (Nat.zero_le _) (Nat.le_of_ble_eq_true rfl) dX0_hanging_78 81 rfl h (fun r78 u78 hb78 h => ?_)
          refine jj_if_eq hX dX0_hanging_81 166 84 (by decide) rfl (fun c81 => ?_) (fun c81 => ?_)
          · have h := h.1 c81
            exact txw0_hanging_B166 hX hY hG39 ih h
          · have h := h.2 c81
            refine jj_aload_n hX dX0_hanging_84 0 rfl 85 rfl ?_
            refine jj_iload_n hX dX0_hanging_85 2 rfl 86 rfl ?_
            refine kxw0_at hX hY k54 q1090 (Nat.le_of_ble_eq_true rfl) (Nat.le_of_ble_eq_true rfl) (Nat.zero_le _) (Nat.zero_le _) (Nat.le_of_ble_eq_true rfl) dX0_hanging_86 89 rfl h (fun r86 u86 h => ?_)
            refine jj_iconst hX dX0_hanging_89 ci_0 90 rfl ?_
            refine jj_aload_n hX dX0_hanging_90 0 rfl 91 rfl ?_
            refine jj_iload_n hX dX0_hanging_91 3 rfl 92 rfl ?_
            refine kxw0_at hX hY k54 q1090 (Nat.le_of_ble_eq_true rfl) (Nat.le_of_ble_eq_true rfl) (Nat.zero_le _) (Nat.zero_le _) (Nat.le_of_ble_eq_true rfl) dX0_hanging_92 95 rfl h (fun r92 u92 h => ?_)
            refine jj_iconst hX dX0_hanging_95 ci_0 96 rfl ?_
            obtain ⟨k96, h⟩ := h
            refine kxw9_isAhead hX hY k96 q1387 (Nat.le_of_ble_eq_true rfl) (Nat.le_of_ble_eq_true rfl) (Nat.zero_le _) (Nat.zero_le _) (Nat.le_of_ble_eq_true rfl) dX0_hanging_96 99 rfl h (fun r96 u96 hb96 h => ?_)
            refine jj_if_ne hX dX0_hanging_99 105 102 (by decide) rfl (fun c99 => ?_) (fun c99 => ?_)
            · have h := h.1 c99
              refine jj_aload_n hX dX0_hanging_105 0 rfl 106 rfl ?_
              refine jj_iload_n hX dX0_hanging_106 2 rfl 107 rfl ?_
              refine kxw0_at hX hY k54 q1090 (Nat.le_of_ble_eq_true rfl) (Nat.le_of_ble_eq_true rfl) (Nat.zero_le _) (Nat.zero_le _) (Nat.le_of_ble_eq_true rfl) dX0_hanging_107 110 rfl h (fun r107 u107 h => ?_)
              obtain ⟨k110, h⟩ := h
              refine xgr_1 hX hY k110 dX0_hanging_110 q777 113 rfl ?_
              obtain ⟨b113, g113, h⟩ := h
              refine jj_st (st2 := [.ref b113]) (by rw [va_rf_some g113]) ?_
              obtain ⟨n113, k113, h⟩ := h
              refine jx_alen hX hY.1 k113 dX0_hanging_113 114 rfl ?_
              refine jj_aload_n hX dX0_hanging_114 0 rfl 115 rfl ?_
              refine jj_iload_n hX dX0_hanging_115 3 rfl 116 rfl ?_
              refine kxw0_at hX hY k54 q1090 (Nat.le_of_ble_eq_true rfl) (Nat.le_of_ble_eq_true rfl) (Nat.zero_le _) (Nat.zero_le _) (Nat.le_of_ble_eq_true rfl) dX0_hanging_116 119 rfl h (fun r116 u116 h => ?_)
              obtain ⟨k119, h⟩ := h
              refine xgr_1 hX hY k119 dX0_hanging_119 q777 122 rfl ?_
              obtain ⟨b122, g122, h⟩ := h
              refine jj_st (st2 := [.ref b122, .int (nI n113)]) (by rw [va_rf_some g122]) ?_
              obtain ⟨n122, k122, h⟩ := h
              refine jx_alen hX hY.1 k122 dX0_hanging_122 123 rfl ?_
              refine jj_icmp_ne hX dX0_hanging_123 143 126 (by decide) rfl (fun c123 => ?_) (fun c123 => ?_)
              · have h := h.1 c123
                refine jj_aload_n hX dX0_hanging_143 0 rfl 144 rfl ?_
                refine jj_iload_n hX dX0_hanging_144 3 rfl 145 rfl ?_
                refine jj_aload_n hX dX0_hanging_145 0 rfl 146 rfl ?_
                refine jj_iload_n hX dX0_hanging_146 2 rfl 147 rfl ?_
                refine kxw0_at hX hY k54 q1090 (Nat.le_of_ble_eq_true rfl) (Nat.le_of_ble_eq_true rfl) (Nat.zero_le _) (Nat.zero_le _) (Nat.le_of_ble_eq_true rfl) dX0_hanging_147 150 rfl h (fun r147 u147 h => ?_)
                obtain ⟨k150, h⟩ := h
                refine xgr_1 hX hY k150 dX0_hanging_150 q777 153 rfl ?_
                obtain ⟨b153, g153, h⟩ := h
                refine jj_st (st2 := [.ref b153, .int x3, .ref x0]) (by rw [va_rf_some g153]) ?_
                obtain ⟨n153, k153, h⟩ := h
                refine jx_alen hX hY.1 k153 dX0_hanging_153 154 rfl ?_
                refine jj_aload_n hX dX0_hanging_154 0 rfl 155 rfl ?_
                refine jj_iload_n hX dX0_hanging_155 3 rfl 156 rfl ?_
                refine kxw0_at hX hY k54 q1090 (Nat.le_of_ble_eq_true rfl) (Nat.le_of_ble_eq_true rfl) (Nat.zero_le _) (Nat.zero_le _) (Nat.le_of_ble_eq_true rfl) dX0_hanging_156 159 rfl h (fun r156 u156 h => ?_)
                obtain ⟨k159, h⟩ := h
                refine xgr_1 hX hY k159 dX0_hanging_159 q777 162 rfl ?_
                obtain ⟨b162, g162, h⟩ := h
                refine jj_st (st2 := [.ref b162, .int (nI n153), .int x3, .ref x0]) (by rw [va_rf_some g162]) ?_
                obtain ⟨n162, k162, h⟩ := h
                refine jx_alen hX hY.1 k162 dX0_hanging_162 163 rfl ?_
                refine kxw0_hangs hX hY k54 q1408 (Nat.le_of_ble_eq_true rfl) (Nat.le_of_ble_eq_true rfl) (Nat.zero_le _) (Nat.zero_le _) (Nat.le_of_ble_eq_true rfl) dX0_hanging_163 166 rfl h (fun u163 h => ?_)
                exact txw0_hanging_B166 hX hY hG39 ih h
              · have h := h.2 c123
                refine jj_iload_n hX dX0_hanging_126 1 rfl 127 rfl ?_
                refine jj_aload_n hX dX0_hanging_127 0 rfl 128 rfl ?_
                refine jj_iload_n hX dX0_hanging_128 3 rfl 129 rfl ?_
                refine kxw0_at hX hY k54 q1090 (Nat.le_of_ble_eq_true rfl) (Nat.le_of_ble_eq_true rfl) (Nat.zero_le _) (Nat.zero_le _) (Nat.le_of_ble_eq_true rfl) dX0_hanging_129 132 rfl h (fun r129 u129 h => ?_)
                obtain ⟨k132, h⟩ := h
                refine xgr_1 hX hY k132 dX0_hanging_132 q777 135 rfl ?_
                obtain ⟨b135, g135, h⟩ := h
                refine jj_st (st2 := [.ref b135, .int x1]) (by rw [va_rf_some g135]) ?_
                obtain ⟨n135, k135, h⟩ := h
                refine jx_alen hX hY.1 k135 dX0_hanging_135 136 rfl ?_
                refine kjw_min hX XP.keeps q1239 (Nat.le_of_ble_eq_true rfl) (Nat.le_of_ble_eq_true rfl) (Nat.zero_le _) (Nat.zero_le _) (Nat.le_of_ble_eq_true rfl) dX0_hanging_136 139 rfl h (fun r136 h => ?_)
                refine jj_istore_n (lv2 := [(0, .ref x0), (1, .int r136), (2, .int x2), (3, .int x3)]) hX dX0_hanging_139 (Nat.le_of_ble_eq_true rfl) [1, 0, 2, 3] rfl 140 rfl ?_
                refine jj_goto hX dX0_hanging_140 166 (by decide) ?_
                exact txw0_hanging_B166 hX hY hG39 ih h
            · have h := h.2 c99
              refine jj_goto hX dX0_hanging_102 166 (by decide) ?_
              exact txw0_hanging_B166 hX hY hG39 ih h
set_option maxHeartbeats 4000000 in
set_option maxRecDepth 100000 in
theorem txw0_hanging_L39 {X : JC} {D : va_G} {dA aK aV : Nat → Nat} {sz : Nat} {K : XK} {Post : Int32 → XS → Prop} {x0 : Nat} (hX : JX X yX0_hanging.cls cX0_hanging 4 (Option.some Jvm.ClassFile.FieldType.int) 3 71 0 0) (hY : JY X D dA aK aV (AX K sz)) : ∀ (n : Nat) (x1 : Int32) (x2 : Int32) (u : XS), xw0_hanging_L39 Post K x0 n x1 x2 u → JJ X (AX K sz) (jj_Q X (va_Qi (fun (r : Int32) (w : XS) => Post r w) (jx_B D dA K) (AX K sz)) 0 0 (AX K sz)) 4 (XP D dA (AX K sz) K u) 0 0 39 [(0, .ref x0), (1, .int x1), (2, .int x2)] [] := by
  intro n
  induction n with
  | zero =>
    intro x1 x2 u h
    exact h.elim
  | succ n ih =>
    intro x1 x2 u h
    have h : xw0_hanging_L39_S Post K x0 (xw0_hanging_L39 Post K x0 n) x1 x2 u := h
    unfold xw0_hanging_L39_S at h
    refine jj_iload_n hX dX0_hanging_39 2 rfl 40 rfl ?_
    refine jj_aload_n hX dX0_hanging_40 0 rfl 41 rfl ?_
    obtain ⟨k41, h⟩ := h
    refine kxw0_table hX hY k41 q879 (Nat.le_of_ble_eq_true rfl) (Nat.le_of_ble_eq_true rfl) (Nat.zero_le _) (Nat.zero_le _) (Nat.le_of_ble_eq_true rfl) dX0_hanging_41 44 rfl h (fun r41 u41 h => ?_)
    obtain ⟨k44, h⟩ := h
    refine xgn5_1 hX hY k44 dX0_hanging_44 nq279 47 rfl ?_
    refine jj_icmp_ge hX dX0_hanging_47 178 50 (by decide) rfl (fun c47 => ?_) (fun c47 => ?_)
    · have h := h.1 c47
      refine jj_aload_n hX dX0_hanging_178 0 rfl 179 rfl ?_
      refine kxw0_nearest hX hY k41 q1412 (Nat.le_of_ble_eq_true rfl) (Nat.le_of_ble_eq_true rfl) (Nat.zero_le _) (Nat.zero_le _) (Nat.le_of_ble_eq_true rfl) dX0_hanging_179 182 rfl h (fun r179 u179 h => ?_)
      refine jj_istore_n (lv2 := [(0, .ref x0), (1, .int x1), (2, .int r179)]) hX dX0_hanging_182 (Nat.le_of_ble_eq_true rfl) [1, 2, 0] rfl 183 rfl ?_
      obtain ⟨n9, h⟩ := h
      exact txw0_hanging_L183 hX hY n9 _ _ _ h
    · have h := h.2 c47
      refine jj_iconst hX dX0_hanging_50 ci_0 51 rfl ?_
      refine jj_istore_n (lv2 := [(0, .ref x0), (1, .int x1), (2, .int x2), (3, .int (0 : Int32))]) hX dX0_hanging_51 (Nat.le_of_ble_eq_true rfl) [1, 2, 3, 0] rfl 52 rfl ?_
      obtain ⟨n9, h⟩ := h
      exact txw0_hanging_L52 hX hY ih n9 _ _ _ h
set_option maxHeartbeats 4000000 in
set_option maxRecDepth 100000 in
theorem txw0_hanging_L6 {X : JC} {D : va_G} {dA aK aV : Nat → Nat} {sz : Nat} {K : XK} {Post : Int32 → XS → Prop} {x0 : Nat} {x1 : Int32} (hX : JX X yX0_hanging.cls cX0_hanging 4 (Option.some Jvm.ClassFile.FieldType.int) 3 71 0 0) (hY : JY X D dA aK aV (AX K sz)) : ∀ (n : Nat) (x2 : Int32) (u : XS), xw0_hanging_L6 Post K x0 x1 n x2 u → JJ X (AX K sz) (jj_Q X (va_Qi (fun (r : Int32) (w : XS) => Post r w) (jx_B D dA K) (AX K sz)) 0 0 (AX K sz)) 4 (XP D dA (AX K sz) K u) 0 0 6 [(0, .ref x0), (1, .int x1), (2, .int x2)] [] := by
  intro n
  induction n with
  | zero =>
    intro x2 u h
    exact h.elim
  | succ n ih =>
    intro x2 u h
    have h : xw0_hanging_L6_S Post K x0 x1 (xw0_hanging_L6 Post K x0 x1 n) x2 u := h
    unfold xw0_hanging_L6_S at h
    refine jj_iload_n hX dX0_hanging_6 2 rfl 7 rfl ?_
    refine jj_aload_n hX dX0_hanging_7 0 rfl 8 rfl ?_
    obtain ⟨k8, h⟩ := h
    refine xg0_22 hX hY k8 dX0_hanging_8 q433 11 rfl ?_
    obtain ⟨b11, g11, h⟩ := h
    refine jj_st (st2 := [.ref b11, .int x2]) (by rw [va_rf_some g11]) ?_
    obtain ⟨n11, k11, h⟩ := h
    refine jx_alen hX hY.1 k11 dX0_hanging_11 12 rfl ?_
    refine jj_icmp_ge hX dX0_hanging_12 37 15 (by decide) rfl (fun c12 => ?_) (fun c12 => ?_)
    · have h := h.1 c12
      refine jj_iconst hX dX0_hanging_37 ci_0 38 rfl ?_
      refine jj_istore_n (lv2 := [(0, .ref x0), (1, .int x1), (2, .int (0 : Int32))]) hX dX0_hanging_38 (Nat.le_of_ble_eq_true rfl) [1, 2, 0] rfl 39 rfl ?_
      obtain ⟨n9, h⟩ := h
      exact txw0_hanging_L39 hX hY n9 _ _ _ h
    · have h := h.2 c12
      refine jj_aload_n hX dX0_hanging_15 0 rfl 16 rfl ?_
      refine xg0_22 hX hY k8 dX0_hanging_16 q433 19 rfl ?_
      refine jj_iload_n hX dX0_hanging_19 2 rfl 20 rfl ?_
      refine jj_ldcw (v := 2147483647) hX dX0_hanging_20 q1308 23 rfl ?_
      obtain ⟨b23, g23, h⟩ := h
      refine jj_st (st2 := [.int (2147483647 : Int32), .int x2, .ref b23]) (by rw [va_rf_some g23]) ?_
      obtain ⟨n23, k23, h⟩ := h
      obtain ⟨hi23, h⟩ := h
      refine jx_iast hX hY.1 k23 _ rfl hi23 dX0_hanging_23 24 rfl (fun u23 e23 => ?_)
      have h := h u23 e23
      refine jj_aload_n hX dX0_hanging_24 0 rfl 25 rfl ?_
      refine xg0_23 hX hY k8 dX0_hanging_25 q434 28 rfl ?_
      refine jj_iload_n hX dX0_hanging_28 2 rfl 29 rfl ?_
      refine jj_iconst hX dX0_hanging_29 ci_0 30 rfl ?_
      obtain ⟨b30, g30, h⟩ := h
      refine jj_st (st2 := [.int (0 : Int32), .int x2, .ref b30]) (by rw [va_rf_some g30]) ?_
      obtain ⟨n30, k30, h⟩ := h
      obtain ⟨hi30, h⟩ := h
      refine jx_zast hX hY.1 k30 _ rfl hi30 dX0_hanging_30 31 rfl (fun u30 e30 => ?_)
      have h := h u30 e30
      obtain ⟨v31, e31⟩ : ∃ y : Int32, y = x2 + (1 : Int32) := ⟨_, rfl⟩
      have h := h v31 e31
      refine jj_iinc (v := v31) (lv2 := [(0, .ref x0), (1, .int x1), (2, .int v31)]) hX dX0_hanging_31 2 rfl (by rw [e31, ci_1]) (Nat.le_of_ble_eq_true rfl) [1, 2, 0] rfl 34 rfl ?_
      refine jj_goto hX dX0_hanging_34 6 (by decide) ?_
      exact ih _ _ h
set_option maxHeartbeats 4000000 in
set_option maxRecDepth 100000 in
theorem mxw0_hanging (l : Launch) (hfl : l.stackTraces = false) (D : va_G) (dA aK aV : Nat → Nat) (x0 : Nat) (K : XK) (u : XS) (Post : Int32 → XS → Prop) (h : xw0_hanging x0 K u Post) (sz : Nat) : Met l yX0_hanging (ws_ yX0_hanging cX0_hanging 4 (Option.some Jvm.ClassFile.FieldType.int)) (jx_rm 3 71 0 0) (jx_Pc D dA aK aV K u sz [.ref x0]) (va_Qi (fun (r : Int32) (w : XS) => Post r w) (jx_B D dA K) (AX K sz)) 0 0 (AX K sz) := by
  refine jx_start hfl [.ref x0] [(0, .ref x0)] (by decide) (Nat.le_of_ble_eq_true rfl) rfl (fun X hX hY hin => ?_)
  unfold xw0_hanging at h
  refine jj_ldcw (v := 2147483647) hX dX0_hanging_0 q1308 3 rfl ?_
  refine jj_istore_n (lv2 := [(0, .ref x0), (1, .int (2147483647 : Int32))]) hX dX0_hanging_3 (Nat.le_of_ble_eq_true rfl) [1, 0] rfl 4 rfl ?_
  refine jj_iconst hX dX0_hanging_4 ci_0 5 rfl ?_
  refine jj_istore_n (lv2 := [(0, .ref x0), (1, .int (2147483647 : Int32)), (2, .int (0 : Int32))]) hX dX0_hanging_5 (Nat.le_of_ble_eq_true rfl) [1, 2, 0] rfl 6 rfl ?_
  obtain ⟨n9, h⟩ := h
  exact txw0_hanging_L6 hX hY n9 _ _ h
theorem hd_xw0_hanging : yX0_hanging.cls ≠ "java/lang/invoke/MethodHandle" ∧ yX0_hanging.cls ≠ "java/lang/invoke/VarHandle" ∧ (parseMethodDescriptor yX0_hanging.desc).map (fun d => d.parameters.length) = some 0 := by decide +kernel
theorem kxw0_hanging {X : JC} {A : Nat → Prop} {Q : State → Prop} {nL k n pc : Nat} {lv : List (Nat × Value)} {st : List Value} {own : String} {cc : ByteArray} {ret : Option FieldType} {F LL mc ms ix : Nat} {D : va_G} {dA aK aV : Nat → Nat} {K : XK} {u : XS} {x0 : Nat} {Post : Int32 → XS → Prop} (hX : JX X own cc nL ret F LL mc ms) (hY : JY X D dA aK aV A) (h1a : K x0 = (1, 0)) (hlk : (Cond.methodLink own ix yX0_hanging) ∈ lw_all) (hF : 3 + 1 ≤ F) (hL : 8 + (4 + 11) + 71 ≤ LL) (hk : k ≤ mc) (hk2 : n ≤ ms) (hw : (st.map fun v => v.category).sum ≤ 8) (d : decode cc pc = .ok (.invokevirtual ix, 3)) (q : Nat) (hq : pc + 3 = q) (h : xw0_hanging x0 K u  Post) (kk : ∀ (r : Int32) (u2 : XS), Post r u2 → JJ X A Q nL (XP D dA A K u2) k n q lv (.int r :: st)) : JJ X A Q nL (XP D dA A K u) k n pc lv (.ref x0 :: st) :=
  jx_callVi (na := 0) (As := []) hX hY jf0 h1a (fun sz => mxw0_hanging (jj_l X) hY.2.2.2.2 D dA aK aV x0 K u  Post h sz) hlk q1406 qs52 q120 q1407 ⟨rfl, hd_xw0_hanging⟩ rfl rfl hw hF hL hk hk2 d q hq kk
theorem knxw0_hanging {X : JC} {A : Nat → Prop} {Q : State → Prop} {nL k n pc : Nat} {lv : List (Nat × Value)} {st : List Value} {own : String} {cc : ByteArray} {ret : Option FieldType} {F LL mc ms ix : Nat} {D : va_G} {dA aK aV : Nat → Nat} {K : XK} {u : XS} {x0 : Nat} {host : String} {Post : Int32 → XS → Prop} (hX : JX X own cc nL ret F LL mc ms) (hY : JY X D dA aK aV A) (h1a : K x0 = (1, 0)) (hlk : (Cond.methodLinkNest own ix yX0_hanging host) ∈ jx_nest) (hF : 3 + 1 ≤ F) (hL : 8 + (4 + 11) + 71 ≤ LL) (hk : k ≤ mc) (hk2 : n ≤ ms) (hw : (st.map fun v => v.category).sum ≤ 8) (d : decode cc pc = .ok (.invokevirtual ix, 3)) (q : Nat) (hq : pc + 3 = q) (h : xw0_hanging x0 K u  Post) (kk : ∀ (r : Int32) (u2 : XS), Post r u2 → JJ X A Q nL (XP D dA A K u2) k n q lv (.int r :: st)) : JJ X A Q nL (XP D dA A K u) k n pc lv (.ref x0 :: st) :=
  jx_callNi (na := 0) (As := []) hX hY jf0 h1a (fun sz => mxw0_hanging (jj_l X) hY.2.2.2.2 D dA aK aV x0 K u  Post h sz) hlk q1406 qs52 q120 q1407 hd_xw0_hanging rfl rfl hw hF hL hk hk2 d q hq kk
/-- RaisedPress.clear()I -/
def xw0_clear (x0 : Nat) (K : XK) (u : XS) (Post : Int32 → XS → Prop) : Prop :=
  K x0 = (1, 0) ∧
  ∀ u2 : XS, u2 = xsi u x0 7 (0 : Int32) →
  xw0_hanging x0 K u2 (fun r6 u6 =>
    (0 ≤ r6 →
      Post (0 : Int32) u6) ∧
    (¬ 0 ≤ r6 →
      Post (1 : Int32) u6))
set_option maxHeartbeats 4000000 in
set_option maxRecDepth 100000 in
theorem mxw0_clear (l : Launch) (hfl : l.stackTraces = false) (D : va_G) (dA aK aV : Nat → Nat) (x0 : Nat) (K : XK) (u : XS) (Post : Int32 → XS → Prop) (h : xw0_clear x0 K u Post) (sz : Nat) : Met l yX0_clear (ws_ yX0_clear cX0_clear 1 (Option.some Jvm.ClassFile.FieldType.int)) (jx_rm 4 94 0 0) (jx_Pc D dA aK aV K u sz [.ref x0]) (va_Qi (fun (r : Int32) (w : XS) => Post r w) (jx_B D dA K) (AX K sz)) 0 0 (AX K sz) := by
  refine jx_start hfl [.ref x0] [(0, .ref x0)] (by decide) (Nat.le_of_ble_eq_true rfl) rfl (fun X hX hY hin => ?_)
  unfold xw0_clear at h
  refine jj_aload_n hX dX0_clear_0 0 rfl 1 rfl ?_
  refine jj_iconst hX dX0_clear_1 ci_0 2 rfl ?_
  obtain ⟨k2, h⟩ := h
  refine xp0_7 hX hY k2 dX0_clear_2 q418 5 rfl (fun u2 e2 => ?_)
  have h := h u2 e2
  refine jj_aload_n hX dX0_clear_5 0 rfl 6 rfl ?_
  refine kxw0_hanging hX hY k2 q1404 (Nat.le_of_ble_eq_true rfl) (Nat.le_of_ble_eq_true rfl) (Nat.zero_le _) (Nat.zero_le _) (Nat.le_of_ble_eq_true rfl) dX0_clear_6 9 rfl h (fun r6 u6 h => ?_)
  refine jj_if_ge hX dX0_clear_9 16 12 (by decide) rfl (fun c9 => ?_) (fun c9 => ?_)
  · have h := h.1 c9
    refine jj_iconst hX dX0_clear_16 ci_0 17 rfl ?_
    exact jj_reti (post := (fun (r : Int32) (w : XS) => Post r w)) (u := u6) hX dX0_clear_17 (Nat.le_refl 0) (Nat.le_refl 0) jx_hB h
  · have h := h.2 c9
    refine jj_iconst hX dX0_clear_12 ci_1 13 rfl ?_
    refine jj_goto hX dX0_clear_13 17 (by decide) ?_
    exact jj_reti (post := (fun (r : Int32) (w : XS) => Post r w)) (u := u6) hX dX0_clear_17 (Nat.le_refl 0) (Nat.le_refl 0) jx_hB h
theorem hd_xw0_clear : yX0_clear.cls ≠ "java/lang/invoke/MethodHandle" ∧ yX0_clear.cls ≠ "java/lang/invoke/VarHandle" ∧ (parseMethodDescriptor yX0_clear.desc).map (fun d => d.parameters.length) = some 0 := by decide +kernel
theorem kxw0_clear {X : JC} {A : Nat → Prop} {Q : State → Prop} {nL k n pc : Nat} {lv : List (Nat × Value)} {st : List Value} {own : String} {cc : ByteArray} {ret : Option FieldType} {F LL mc ms ix : Nat} {D : va_G} {dA aK aV : Nat → Nat} {K : XK} {u : XS} {x0 : Nat} {Post : Int32 → XS → Prop} (hX : JX X own cc nL ret F LL mc ms) (hY : JY X D dA aK aV A) (h1a : K x0 = (1, 0)) (hlk : (Cond.methodLink own ix yX0_clear) ∈ lw_all) (hF : 4 + 1 ≤ F) (hL : 8 + (1 + 11) + 94 ≤ LL) (hk : k ≤ mc) (hk2 : n ≤ ms) (hw : (st.map fun v => v.category).sum ≤ 8) (d : decode cc pc = .ok (.invokevirtual ix, 3)) (q : Nat) (hq : pc + 3 = q) (h : xw0_clear x0 K u  Post) (kk : ∀ (r : Int32) (u2 : XS), Post r u2 → JJ X A Q nL (XP D dA A K u2) k n q lv (.int r :: st)) : JJ X A Q nL (XP D dA A K u) k n pc lv (.ref x0 :: st) :=
  jx_callVi (na := 0) (As := []) hX hY jf0 h1a (fun sz => mxw0_clear (jj_l X) hY.2.2.2.2 D dA aK aV x0 K u  Post h sz) hlk q1401 q1402 q120 q1403 ⟨rfl, hd_xw0_clear⟩ rfl rfl hw hF hL hk hk2 d q hq kk
theorem knxw0_clear {X : JC} {A : Nat → Prop} {Q : State → Prop} {nL k n pc : Nat} {lv : List (Nat × Value)} {st : List Value} {own : String} {cc : ByteArray} {ret : Option FieldType} {F LL mc ms ix : Nat} {D : va_G} {dA aK aV : Nat → Nat} {K : XK} {u : XS} {x0 : Nat} {host : String} {Post : Int32 → XS → Prop} (hX : JX X own cc nL ret F LL mc ms) (hY : JY X D dA aK aV A) (h1a : K x0 = (1, 0)) (hlk : (Cond.methodLinkNest own ix yX0_clear host) ∈ jx_nest) (hF : 4 + 1 ≤ F) (hL : 8 + (1 + 11) + 94 ≤ LL) (hk : k ≤ mc) (hk2 : n ≤ ms) (hw : (st.map fun v => v.category).sum ≤ 8) (d : decode cc pc = .ok (.invokevirtual ix, 3)) (q : Nat) (hq : pc + 3 = q) (h : xw0_clear x0 K u  Post) (kk : ∀ (r : Int32) (u2 : XS), Post r u2 → JJ X A Q nL (XP D dA A K u2) k n q lv (.int r :: st)) : JJ X A Q nL (XP D dA A K u) k n pc lv (.ref x0 :: st) :=
  jx_callNi (na := 0) (As := []) hX hY jf0 h1a (fun sz => mxw0_clear (jj_l X) hY.2.2.2.2 D dA aK aV x0 K u  Post h sz) hlk q1401 q1402 q120 q1403 hd_xw0_clear rfl rfl hw hF hL hk hk2 d q hq kk
/-- RaisedPress.twin()I -/
def xw0_twin (x0 : Nat) (K : XK) (u : XS) (Post : Int32 → XS → Prop) : Prop :=
  K x0 = (1, 0) ∧
  xw0_hanging x0 K u (fun r2 u2 =>
    xw0_answer x0 r2 K u2 (fun r5 u5 =>
      Post r5 u5))
set_option maxHeartbeats 4000000 in
set_option maxRecDepth 100000 in
theorem mxw0_twin (l : Launch) (hfl : l.stackTraces = false) (D : va_G) (dA aK aV : Nat → Nat) (x0 : Nat) (K : XK) (u : XS) (Post : Int32 → XS → Prop) (h : xw0_twin x0 K u Post) (sz : Nat) : Met l yX0_twin (ws_ yX0_twin cX0_twin 1 (Option.some Jvm.ClassFile.FieldType.int)) (jx_rm 4 94 0 0) (jx_Pc D dA aK aV K u sz [.ref x0]) (va_Qi (fun (r : Int32) (w : XS) => Post r w) (jx_B D dA K) (AX K sz)) 0 0 (AX K sz) := by
  refine jx_start hfl [.ref x0] [(0, .ref x0)] (by decide) (Nat.le_of_ble_eq_true rfl) rfl (fun X hX hY hin => ?_)
  unfold xw0_twin at h
  refine jj_aload_n hX dX0_twin_0 0 rfl 1 rfl ?_
  refine jj_aload_n hX dX0_twin_1 0 rfl 2 rfl ?_
  obtain ⟨k2, h⟩ := h
  refine kxw0_hanging hX hY k2 q1404 (Nat.le_of_ble_eq_true rfl) (Nat.le_of_ble_eq_true rfl) (Nat.zero_le _) (Nat.zero_le _) (Nat.le_of_ble_eq_true rfl) dX0_twin_2 5 rfl h (fun r2 u2 h => ?_)
  refine kxw0_answer hX hY k2 q1077 (Nat.le_of_ble_eq_true rfl) (Nat.le_of_ble_eq_true rfl) (Nat.zero_le _) (Nat.zero_le _) (Nat.le_of_ble_eq_true rfl) dX0_twin_5 8 rfl h (fun r5 u5 h => ?_)
  exact jj_reti (post := (fun (r : Int32) (w : XS) => Post r w)) (u := u5) hX dX0_twin_8 (Nat.le_refl 0) (Nat.le_refl 0) jx_hB h
theorem hd_xw0_twin : yX0_twin.cls ≠ "java/lang/invoke/MethodHandle" ∧ yX0_twin.cls ≠ "java/lang/invoke/VarHandle" ∧ (parseMethodDescriptor yX0_twin.desc).map (fun d => d.parameters.length) = some 0 := by decide +kernel
theorem kxw0_twin {X : JC} {A : Nat → Prop} {Q : State → Prop} {nL k n pc : Nat} {lv : List (Nat × Value)} {st : List Value} {own : String} {cc : ByteArray} {ret : Option FieldType} {F LL mc ms ix : Nat} {D : va_G} {dA aK aV : Nat → Nat} {K : XK} {u : XS} {x0 : Nat} {Post : Int32 → XS → Prop} (hX : JX X own cc nL ret F LL mc ms) (hY : JY X D dA aK aV A) (h1a : K x0 = (1, 0)) (hlk : (Cond.methodLink own ix yX0_twin) ∈ lw_all) (hF : 4 + 1 ≤ F) (hL : 8 + (1 + 11) + 94 ≤ LL) (hk : k ≤ mc) (hk2 : n ≤ ms) (hw : (st.map fun v => v.category).sum ≤ 8) (d : decode cc pc = .ok (.invokevirtual ix, 3)) (q : Nat) (hq : pc + 3 = q) (h : xw0_twin x0 K u  Post) (kk : ∀ (r : Int32) (u2 : XS), Post r u2 → JJ X A Q nL (XP D dA A K u2) k n q lv (.int r :: st)) : JJ X A Q nL (XP D dA A K u) k n pc lv (.ref x0 :: st) :=
  jx_callVi (na := 0) (As := []) hX hY jf0 h1a (fun sz => mxw0_twin (jj_l X) hY.2.2.2.2 D dA aK aV x0 K u  Post h sz) hlk q1421 q1422 q120 q1423 ⟨rfl, hd_xw0_twin⟩ rfl rfl hw hF hL hk hk2 d q hq kk
theorem knxw0_twin {X : JC} {A : Nat → Prop} {Q : State → Prop} {nL k n pc : Nat} {lv : List (Nat × Value)} {st : List Value} {own : String} {cc : ByteArray} {ret : Option FieldType} {F LL mc ms ix : Nat} {D : va_G} {dA aK aV : Nat → Nat} {K : XK} {u : XS} {x0 : Nat} {host : String} {Post : Int32 → XS → Prop} (hX : JX X own cc nL ret F LL mc ms) (hY : JY X D dA aK aV A) (h1a : K x0 = (1, 0)) (hlk : (Cond.methodLinkNest own ix yX0_twin host) ∈ jx_nest) (hF : 4 + 1 ≤ F) (hL : 8 + (1 + 11) + 94 ≤ LL) (hk : k ≤ mc) (hk2 : n ≤ ms) (hw : (st.map fun v => v.category).sum ≤ 8) (d : decode cc pc = .ok (.invokevirtual ix, 3)) (q : Nat) (hq : pc + 3 = q) (h : xw0_twin x0 K u  Post) (kk : ∀ (r : Int32) (u2 : XS), Post r u2 → JJ X A Q nL (XP D dA A K u2) k n q lv (.int r :: st)) : JJ X A Q nL (XP D dA A K u) k n pc lv (.ref x0 :: st) :=
  jx_callNi (na := 0) (As := []) hX hY jf0 h1a (fun sz => mxw0_twin (jj_l X) hY.2.2.2.2 D dA aK aV x0 K u  Post h sz) hlk q1421 q1422 q120 q1423 hd_xw0_twin rfl rfl hw hF hL hk hk2 d q hq kk
def xw0_twins_B87 (G9 : Int32 → Int32 → XS → Prop) (G22 : Int32 → Int32 → XS → Prop) (Post : Int32 → XS → Prop) (K : XK) (x0 : Nat) (x2 : Int32) (x3 : Int32) (s0 : Int32) (u : XS) : Prop :=
  ∀ v89 : Int32, v89 = (s0 + (0 : Int32)) →
  ∀ v90 : Int32, v90 = x3 + (1 : Int32) →
  G22 v89 v90 u
def xw0_twins_L22_S (G9 : Int32 → Int32 → XS → Prop) (Post : Int32 → XS → Prop) (K : XK) (x0 : Nat) (x2 : Int32) (R : Int32 → Int32 → XS → Prop) (x1 : Int32) (x3 : Int32) (u : XS) : Prop :=
  (x2 ≤ x3 →
    ∀ v96 : Int32, v96 = x2 + (1 : Int32) →
    G9 x1 v96 u) ∧
  (¬ x2 ≤ x3 →
    K x0 = (1, 0) ∧
    xw0_isThere x0 x2 K u (fun r30 u30 =>
      (r30 = 0 →
        xw0_twins_B87 G9 R Post K x0 x2 x3 x1 u30) ∧
      (¬ r30 = 0 →
        xw0_isThere x0 x3 K u30 (fun r38 u38 =>
          (r38 = 0 →
            xw0_twins_B87 G9 R Post K x0 x2 x3 x1 u38) ∧
          (¬ r38 = 0 →
            xw0_at x0 x2 K u38 (fun r46 u46 =>
              xRule K r46 ∧
              ∃ b52, (xr u46 r46 1) = some b52 ∧
              ∃ n52, K b52 = (2, n52) ∧
              xw0_at x0 x3 K u46 (fun r55 u55 =>
                xRule K r55 ∧
                ∃ b61, (xr u55 r55 1) = some b61 ∧
                ∃ n61, K b61 = (2, n61) ∧
                (¬ (nI n52) = (nI n61) →
                  xw0_twins_B87 G9 R Post K x0 x2 x3 x1 u55) ∧
                ((nI n52) = (nI n61) →
                  xw0_at x0 x2 K u55 (fun r67 u67 =>
                    xw0_at x0 x3 K u67 (fun r73 u73 =>
                      xRule K r67 ∧
                      xw9_isAhead r67 (0 : Int32) r73 (0 : Int32) K u73 (fun r77 u77 =>
                        (r77 = 0 →
                          xw0_twins_B87 G9 R Post K x0 x2 x3 x1 u77) ∧
                        (¬ r77 = 0 →
                          ∀ v89 : Int32, v89 = (x1 + (1 : Int32)) →
                          ∀ v90 : Int32, v90 = x3 + (1 : Int32) →
                          R v89 v90 u77))))))))))))
def xw0_twins_L22 (G9 : Int32 → Int32 → XS → Prop) (Post : Int32 → XS → Prop) (K : XK) (x0 : Nat) (x2 : Int32) : Nat → Int32 → Int32 → XS → Prop
  | 0 => fun _ _ _ => False
  | n + 1 => fun x1 x3 u => xw0_twins_L22_S G9 Post K x0 x2 (xw0_twins_L22 G9 Post K x0 x2 n) x1 x3 u
def xw0_twins_L9_S (Post : Int32 → XS → Prop) (K : XK) (x0 : Nat) (R : Int32 → Int32 → XS → Prop) (x1 : Int32) (x2 : Int32) (u : XS) : Prop :=
  K x0 = (1, 0) ∧
  xw0_table x0 K u (fun r11 u11 =>
    K r11 = (1, 5) ∧
    ((xi u11 r11 1) ≤ x2 →
      Post x1 u11) ∧
    (¬ (xi u11 r11 1) ≤ x2 →
      ∃ n, xw0_twins_L22 R Post K x0 x2 n x1 (0 : Int32) u11))
def xw0_twins_L9 (Post : Int32 → XS → Prop) (K : XK) (x0 : Nat) : Nat → Int32 → Int32 → XS → Prop
  | 0 => fun _ _ _ => False
  | n + 1 => fun x1 x2 u => xw0_twins_L9_S Post K x0 (xw0_twins_L9 Post K x0 n) x1 x2 u
/-- RaisedPress.twins()I -/
def xw0_twins (x0 : Nat) (K : XK) (u : XS) (Post : Int32 → XS → Prop) : Prop :=
  K x0 = (1, 0) ∧
  ∀ u2 : XS, u2 = xsi u x0 7 (0 : Int32) →
  ∃ n, xw0_twins_L9 Post K x0 n (0 : Int32) (0 : Int32) u2
set_option maxHeartbeats 4000000 in
set_option maxRecDepth 100000 in
theorem txw0_twins_B87 {X : JC} {D : va_G} {dA aK aV : Nat → Nat} {sz : Nat} {K : XK} {G9 : Int32 → Int32 → XS → Prop} {G22 : Int32 → Int32 → XS → Prop} {Post : Int32 → XS → Prop} {x0 : Nat} {x2 : Int32} {x3 : Int32} {s0 : Int32} {u : XS} (hX : JX X yX0_twins.cls cX0_twins 4 (Option.some Jvm.ClassFile.FieldType.int) 1 24 0 0) (hY : JY X D dA aK aV (AX K sz)) (hG9 : ∀ (y1 : Int32) (y2 : Int32) (u : XS), G9 y1 y2 u → JJ X (AX K sz) (jj_Q X (va_Qi (fun (r : Int32) (w : XS) => Post r w) (jx_B D dA K) (AX K sz)) 0 0 (AX K sz)) 4 (XP D dA (AX K sz) K u) 0 0 9 [(0, .ref x0), (1, .int y1), (2, .int y2)] []) (hG22 : ∀ (y1 : Int32) (y3 : Int32) (u : XS), G22 y1 y3 u → JJ X (AX K sz) (jj_Q X (va_Qi (fun (r : Int32) (w : XS) => Post r w) (jx_B D dA K) (AX K sz)) 0 0 (AX K sz)) 4 (XP D dA (AX K sz) K u) 0 0 22 [(0, .ref x0), (1, .int y1), (2, .int x2), (3, .int y3)] []) (h : xw0_twins_B87 G9 G22 Post K x0 x2 x3 s0 u) : JJ X (AX K sz) (jj_Q X (va_Qi (fun (r : Int32) (w : XS) => Post r w) (jx_B D dA K) (AX K sz)) 0 0 (AX K sz)) 4 (XP D dA (AX K sz) K u) 0 0 87 [(0, .ref x0), (2, .int x2), (3, .int x3)] [.int s0] := by
  unfold xw0_twins_B87 at h
  refine jj_iconst hX dX0_twins_87 ci_0 88 rfl ?_
  refine jj_iadd hX dX0_twins_88 89 rfl ?_
  refine jj_topi (fun v89 e89 => ?_)
  have h := h v89 e89
  refine jj_istore_n (lv2 := [(0, .ref x0), (1, .int v89), (2, .int x2), (3, .int x3)]) hX dX0_twins_89 (Nat.le_of_ble_eq_true rfl) [1, 0, 2, 3] rfl 90 rfl ?_
  obtain ⟨v90, e90⟩ : ∃ y : Int32, y = x3 + (1 : Int32) := ⟨_, rfl⟩
  have h := h v90 e90
  refine jj_iinc (v := v90) (lv2 := [(0, .ref x0), (1, .int v89), (2, .int x2), (3, .int v90)]) hX dX0_twins_90 3 rfl (by rw [e90, ci_1]) (Nat.le_of_ble_eq_true rfl) [1, 2, 3, 0] rfl 93 rfl ?_
  refine jj_goto hX dX0_twins_93 22 (by decide) ?_
  exact hG22 _ _ _ h
set_option maxHeartbeats 4000000 in
set_option maxRecDepth 100000 in
theorem txw0_twins_L22 {X : JC} {D : va_G} {dA aK aV : Nat → Nat} {sz : Nat} {K : XK} {G9 : Int32 → Int32 → XS → Prop} {Post : Int32 → XS → Prop} {x0 : Nat} {x2 : Int32} (hX : JX X yX0_twins.cls cX0_twins 4 (Option.some Jvm.ClassFile.FieldType.int) 1 24 0 0) (hY : JY X D dA aK aV (AX K sz)) (hG9 : ∀ (y1 : Int32) (y2 : Int32) (u : XS), G9 y1 y2 u → JJ X (AX K sz) (jj_Q X (va_Qi (fun (r : Int32) (w : XS) => Post r w) (jx_B D dA K) (AX K sz)) 0 0 (AX K sz)) 4 (XP D dA (AX K sz) K u) 0 0 9 [(0, .ref x0), (1, .int y1), (2, .int y2)] []) : ∀ (n : Nat) (x1 : Int32) (x3 : Int32) (u : XS), xw0_twins_L22 G9 Post K x0 x2 n x1 x3 u → JJ X (AX K sz) (jj_Q X (va_Qi (fun (r : Int32) (w : XS) => Post r w) (jx_B D dA K) (AX K sz)) 0 0 (AX K sz)) 4 (XP D dA (AX K sz) K u) 0 0 22 [(0, .ref x0), (1, .int x1), (2, .int x2), (3, .int x3)] [] := by
  intro n
  induction n with
  | zero =>
    intro x1 x3 u h
    exact h.elim
  | succ n ih =>
    intro x1 x3 u h
    have h : xw0_twins_L22_S G9 Post K x0 x2 (xw0_twins_L22 G9 Post K x0 x2 n) x1 x3 u := h
    unfold xw0_twins_L22_S at h
    refine jj_iload_n hX dX0_twins_22 3 rfl 23 rfl ?_
    refine jj_iload_n hX dX0_twins_23 2 rfl 24 rfl ?_
    refine jj_icmp_ge hX dX0_twins_24 96 27 (by decide) rfl (fun c24 => ?_) (fun c24 => ?_)
    · have h := h.1 c24
      obtain ⟨v96, e96⟩ : ∃ y : Int32, y = x2 + (1 : Int32) := ⟨_, rfl⟩
      have h := h v96 e96
      refine jj_iinc (v := v96) (lv2 := [(0, .ref x0), (1, .int x1), (2, .int v96), (3, .int x3)]) hX dX0_twins_96 2 rfl (by rw [e96, ci_1]) (Nat.le_of_ble_eq_true rfl) [1, 2, 0, 3] rfl 99 rfl ?_
      refine jj_goto hX dX0_twins_99 9 (by decide) ?_
      refine jj_sub (lv2 := [(0, .ref x0), (1, .int x1), (2, .int v96)]) [0, 1, 2] rfl ?_
      exact hG9 _ _ _ h
    · have h := h.2 c24
      refine jj_iload_n hX dX0_twins_27 1 rfl 28 rfl ?_
      refine jj_aload_n hX dX0_twins_28 0 rfl 29 rfl ?_
      refine jj_iload_n hX dX0_twins_29 2 rfl 30 rfl ?_
      obtain ⟨k30, h⟩ := h
      refine kxw0_isThere hX hY k30 q1173 (Nat.le_of_ble_eq_true rfl) (Nat.le_of_ble_eq_true rfl) (Nat.zero_le _) (Nat.zero_le _) (Nat.le_of_ble_eq_true rfl) dX0_twins_30 33 rfl h (fun r30 u30 hb30 h => ?_)
      refine jj_if_eq hX dX0_twins_33 87 36 (by decide) rfl (fun c33 => ?_) (fun c33 => ?_)
      · have h := h.1 c33
        refine jj_sub (lv2 := [(0, .ref x0), (2, .int x2), (3, .int x3)]) [0, 2, 3] rfl ?_
        exact txw0_twins_B87 hX hY hG9 ih h
      · have h := h.2 c33
        refine jj_aload_n hX dX0_twins_36 0 rfl 37 rfl ?_
        refine jj_iload_n hX dX0_twins_37 3 rfl 38 rfl ?_
        refine kxw0_isThere hX hY k30 q1173 (Nat.le_of_ble_eq_true rfl) (Nat.le_of_ble_eq_true rfl) (Nat.zero_le _) (Nat.zero_le _) (Nat.le_of_ble_eq_true rfl) dX0_twins_38 41 rfl h (fun r38 u38 hb38 h => ?_)
        refine jj_if_eq hX dX0_twins_41 87 44 (by decide) rfl (fun c41 => ?_) (fun c41 => ?_)
        · have h := h.1 c41
          refine jj_sub (lv2 := [(0, .ref x0), (2, .int x2), (3, .int x3)]) [0, 2, 3] rfl ?_
          exact txw0_twins_B87 hX hY hG9 ih h
        · have h := h.2 c41
          refine jj_aload_n hX dX0_twins_44 0 rfl 45 rfl ?_
          refine jj_iload_n hX dX0_twins_45 2 rfl 46 rfl ?_
          refine kxw0_at hX hY k30 q1090 (Nat.le_of_ble_eq_true rfl) (Nat.le_of_ble_eq_true rfl) (Nat.zero_le _) (Nat.zero_le _) (Nat.le_of_ble_eq_true rfl) dX0_twins_46 49 rfl h (fun r46 u46 h => ?_)
          obtain ⟨k49, h⟩ := h
          refine xgr_1 hX hY k49 dX0_twins_49 q777 52 rfl ?_
          obtain ⟨b52, g52, h⟩ := h
          refine jj_st (st2 := [.ref b52, .int x1]) (by rw [va_rf_some g52]) ?_
          obtain ⟨n52, k52, h⟩ := h
          refine jx_alen hX hY.1 k52 dX0_twins_52 53 rfl ?_
          refine jj_aload_n hX dX0_twins_53 0 rfl 54 rfl ?_
          refine jj_iload_n hX dX0_twins_54 3 rfl 55 rfl ?_
          refine kxw0_at hX hY k30 q1090 (Nat.le_of_ble_eq_true rfl) (Nat.le_of_ble_eq_true rfl) (Nat.zero_le _) (Nat.zero_le _) (Nat.le_of_ble_eq_true rfl) dX0_twins_55 58 rfl h (fun r55 u55 h => ?_)
          obtain ⟨k58, h⟩ := h
          refine xgr_1 hX hY k58 dX0_twins_58 q777 61 rfl ?_
          obtain ⟨b61, g61, h⟩ := h
          refine jj_st (st2 := [.ref b61, .int (nI n52), .int x1]) (by rw [va_rf_some g61]) ?_
          obtain ⟨n61, k61, h⟩ := h
          refine jx_alen hX hY.1 k61 dX0_twins_61 62 rfl ?_
          refine jj_icmp_ne hX dX0_twins_62 87 65 (by decide) rfl (fun c62 => ?_) (fun c62 => ?_)
          · have h := h.1 c62
            refine jj_sub (lv2 := [(0, .ref x0), (2, .int x2), (3, .int x3)]) [0, 2, 3] rfl ?_
            exact txw0_twins_B87 hX hY hG9 ih h
          · have h := h.2 c62
            refine jj_aload_n hX dX0_twins_65 0 rfl 66 rfl ?_
            refine jj_iload_n hX dX0_twins_66 2 rfl 67 rfl ?_
            refine kxw0_at hX hY k30 q1090 (Nat.le_of_ble_eq_true rfl) (Nat.le_of_ble_eq_true rfl) (Nat.zero_le _) (Nat.zero_le _) (Nat.le_of_ble_eq_true rfl) dX0_twins_67 70 rfl h (fun r67 u67 h => ?_)
            refine jj_iconst hX dX0_twins_70 ci_0 71 rfl ?_
            refine jj_aload_n hX dX0_twins_71 0 rfl 72 rfl ?_
            refine jj_iload_n hX dX0_twins_72 3 rfl 73 rfl ?_
            refine kxw0_at hX hY k30 q1090 (Nat.le_of_ble_eq_true rfl) (Nat.le_of_ble_eq_true rfl) (Nat.zero_le _) (Nat.zero_le _) (Nat.le_of_ble_eq_true rfl) dX0_twins_73 76 rfl h (fun r73 u73 h => ?_)
            refine jj_iconst hX dX0_twins_76 ci_0 77 rfl ?_
            obtain ⟨k77, h⟩ := h
            refine kxw9_isAhead hX hY k77 q1387 (Nat.le_of_ble_eq_true rfl) (Nat.le_of_ble_eq_true rfl) (Nat.zero_le _) (Nat.zero_le _) (Nat.le_of_ble_eq_true rfl) dX0_twins_77 80 rfl h (fun r77 u77 hb77 h => ?_)
            refine jj_if_eq hX dX0_twins_80 87 83 (by decide) rfl (fun c80 => ?_) (fun c80 => ?_)
            · have h := h.1 c80
              refine jj_sub (lv2 := [(0, .ref x0), (2, .int x2), (3, .int x3)]) [0, 2, 3] rfl ?_
              exact txw0_twins_B87 hX hY hG9 ih h
            · have h := h.2 c80
              refine jj_iconst hX dX0_twins_83 ci_1 84 rfl ?_
              refine jj_goto hX dX0_twins_84 88 (by decide) ?_
              refine jj_iadd hX dX0_twins_88 89 rfl ?_
              refine jj_topi (fun v89 e89 => ?_)
              have h := h v89 e89
              refine jj_istore_n (lv2 := [(0, .ref x0), (1, .int v89), (2, .int x2), (3, .int x3)]) hX dX0_twins_89 (Nat.le_of_ble_eq_true rfl) [1, 0, 2, 3] rfl 90 rfl ?_
              obtain ⟨v90, e90⟩ : ∃ y : Int32, y = x3 + (1 : Int32) := ⟨_, rfl⟩
              have h := h v90 e90
              refine jj_iinc (v := v90) (lv2 := [(0, .ref x0), (1, .int v89), (2, .int x2), (3, .int v90)]) hX dX0_twins_90 3 rfl (by rw [e90, ci_1]) (Nat.le_of_ble_eq_true rfl) [1, 2, 3, 0] rfl 93 rfl ?_
              refine jj_goto hX dX0_twins_93 22 (by decide) ?_
              exact ih _ _ _ h
set_option maxHeartbeats 4000000 in
set_option maxRecDepth 100000 in
theorem txw0_twins_L9 {X : JC} {D : va_G} {dA aK aV : Nat → Nat} {sz : Nat} {K : XK} {Post : Int32 → XS → Prop} {x0 : Nat} (hX : JX X yX0_twins.cls cX0_twins 4 (Option.some Jvm.ClassFile.FieldType.int) 1 24 0 0) (hY : JY X D dA aK aV (AX K sz)) : ∀ (n : Nat) (x1 : Int32) (x2 : Int32) (u : XS), xw0_twins_L9 Post K x0 n x1 x2 u → JJ X (AX K sz) (jj_Q X (va_Qi (fun (r : Int32) (w : XS) => Post r w) (jx_B D dA K) (AX K sz)) 0 0 (AX K sz)) 4 (XP D dA (AX K sz) K u) 0 0 9 [(0, .ref x0), (1, .int x1), (2, .int x2)] [] := by
  intro n
  induction n with
  | zero =>
    intro x1 x2 u h
    exact h.elim
  | succ n ih =>
    intro x1 x2 u h
    have h : xw0_twins_L9_S Post K x0 (xw0_twins_L9 Post K x0 n) x1 x2 u := h
    unfold xw0_twins_L9_S at h
    refine jj_iload_n hX dX0_twins_9 2 rfl 10 rfl ?_
    refine jj_aload_n hX dX0_twins_10 0 rfl 11 rfl ?_
    obtain ⟨k11, h⟩ := h
    refine kxw0_table hX hY k11 q879 (Nat.le_of_ble_eq_true rfl) (Nat.le_of_ble_eq_true rfl) (Nat.zero_le _) (Nat.zero_le _) (Nat.le_of_ble_eq_true rfl) dX0_twins_11 14 rfl h (fun r11 u11 h => ?_)
    obtain ⟨k14, h⟩ := h
    refine xgn5_1 hX hY k14 dX0_twins_14 nq279 17 rfl ?_
    refine jj_icmp_ge hX dX0_twins_17 102 20 (by decide) rfl (fun c17 => ?_) (fun c17 => ?_)
    · have h := h.1 c17
      refine jj_iload_n hX dX0_twins_102 1 rfl 103 rfl ?_
      exact jj_reti (post := (fun (r : Int32) (w : XS) => Post r w)) (u := u11) hX dX0_twins_103 (Nat.le_refl 0) (Nat.le_refl 0) jx_hB h
    · have h := h.2 c17
      refine jj_iconst hX dX0_twins_20 ci_0 21 rfl ?_
      refine jj_istore_n (lv2 := [(0, .ref x0), (1, .int x1), (2, .int x2), (3, .int (0 : Int32))]) hX dX0_twins_21 (Nat.le_of_ble_eq_true rfl) [1, 2, 3, 0] rfl 22 rfl ?_
      obtain ⟨n9, h⟩ := h
      exact txw0_twins_L22 hX hY ih n9 _ _ _ h
set_option maxHeartbeats 4000000 in
set_option maxRecDepth 100000 in
theorem mxw0_twins (l : Launch) (hfl : l.stackTraces = false) (D : va_G) (dA aK aV : Nat → Nat) (x0 : Nat) (K : XK) (u : XS) (Post : Int32 → XS → Prop) (h : xw0_twins x0 K u Post) (sz : Nat) : Met l yX0_twins (ws_ yX0_twins cX0_twins 4 (Option.some Jvm.ClassFile.FieldType.int)) (jx_rm 1 24 0 0) (jx_Pc D dA aK aV K u sz [.ref x0]) (va_Qi (fun (r : Int32) (w : XS) => Post r w) (jx_B D dA K) (AX K sz)) 0 0 (AX K sz) := by
  refine jx_start hfl [.ref x0] [(0, .ref x0)] (by decide) (Nat.le_of_ble_eq_true rfl) rfl (fun X hX hY hin => ?_)
  unfold xw0_twins at h
  refine jj_aload_n hX dX0_twins_0 0 rfl 1 rfl ?_
  refine jj_iconst hX dX0_twins_1 ci_0 2 rfl ?_
  obtain ⟨k2, h⟩ := h
  refine xp0_7 hX hY k2 dX0_twins_2 q418 5 rfl (fun u2 e2 => ?_)
  have h := h u2 e2
  refine jj_iconst hX dX0_twins_5 ci_0 6 rfl ?_
  refine jj_istore_n (lv2 := [(0, .ref x0), (1, .int (0 : Int32))]) hX dX0_twins_6 (Nat.le_of_ble_eq_true rfl) [1, 0] rfl 7 rfl ?_
  refine jj_iconst hX dX0_twins_7 ci_0 8 rfl ?_
  refine jj_istore_n (lv2 := [(0, .ref x0), (1, .int (0 : Int32)), (2, .int (0 : Int32))]) hX dX0_twins_8 (Nat.le_of_ble_eq_true rfl) [1, 2, 0] rfl 9 rfl ?_
  obtain ⟨n9, h⟩ := h
  exact txw0_twins_L9 hX hY n9 _ _ _ h
theorem hd_xw0_twins : yX0_twins.cls ≠ "java/lang/invoke/MethodHandle" ∧ yX0_twins.cls ≠ "java/lang/invoke/VarHandle" ∧ (parseMethodDescriptor yX0_twins.desc).map (fun d => d.parameters.length) = some 0 := by decide +kernel
theorem kxw0_twins {X : JC} {A : Nat → Prop} {Q : State → Prop} {nL k n pc : Nat} {lv : List (Nat × Value)} {st : List Value} {own : String} {cc : ByteArray} {ret : Option FieldType} {F LL mc ms ix : Nat} {D : va_G} {dA aK aV : Nat → Nat} {K : XK} {u : XS} {x0 : Nat} {Post : Int32 → XS → Prop} (hX : JX X own cc nL ret F LL mc ms) (hY : JY X D dA aK aV A) (h1a : K x0 = (1, 0)) (hlk : (Cond.methodLink own ix yX0_twins) ∈ lw_all) (hF : 1 + 1 ≤ F) (hL : 8 + (4 + 11) + 24 ≤ LL) (hk : k ≤ mc) (hk2 : n ≤ ms) (hw : (st.map fun v => v.category).sum ≤ 8) (d : decode cc pc = .ok (.invokevirtual ix, 3)) (q : Nat) (hq : pc + 3 = q) (h : xw0_twins x0 K u  Post) (kk : ∀ (r : Int32) (u2 : XS), Post r u2 → JJ X A Q nL (XP D dA A K u2) k n q lv (.int r :: st)) : JJ X A Q nL (XP D dA A K u) k n pc lv (.ref x0 :: st) :=
  jx_callVi (na := 0) (As := []) hX hY jf0 h1a (fun sz => mxw0_twins (jj_l X) hY.2.2.2.2 D dA aK aV x0 K u  Post h sz) hlk q1425 q1426 q120 q1427 ⟨rfl, hd_xw0_twins⟩ rfl rfl hw hF hL hk hk2 d q hq kk
theorem knxw0_twins {X : JC} {A : Nat → Prop} {Q : State → Prop} {nL k n pc : Nat} {lv : List (Nat × Value)} {st : List Value} {own : String} {cc : ByteArray} {ret : Option FieldType} {F LL mc ms ix : Nat} {D : va_G} {dA aK aV : Nat → Nat} {K : XK} {u : XS} {x0 : Nat} {host : String} {Post : Int32 → XS → Prop} (hX : JX X own cc nL ret F LL mc ms) (hY : JY X D dA aK aV A) (h1a : K x0 = (1, 0)) (hlk : (Cond.methodLinkNest own ix yX0_twins host) ∈ jx_nest) (hF : 1 + 1 ≤ F) (hL : 8 + (4 + 11) + 24 ≤ LL) (hk : k ≤ mc) (hk2 : n ≤ ms) (hw : (st.map fun v => v.category).sum ≤ 8) (d : decode cc pc = .ok (.invokevirtual ix, 3)) (q : Nat) (hq : pc + 3 = q) (h : xw0_twins x0 K u  Post) (kk : ∀ (r : Int32) (u2 : XS), Post r u2 → JJ X A Q nL (XP D dA A K u2) k n q lv (.int r :: st)) : JJ X A Q nL (XP D dA A K u) k n pc lv (.ref x0 :: st) :=
  jx_callNi (na := 0) (As := []) hX hY jf0 h1a (fun sz => mxw0_twins (jj_l X) hY.2.2.2.2 D dA aK aV x0 K u  Post h sz) hlk q1425 q1426 q120 q1427 hd_xw0_twins rfl rfl hw hF hL hk hk2 d q hq kk
