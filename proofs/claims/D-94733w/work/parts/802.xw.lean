set_option linter.unusedVariables false
/-- RaisedPress$Begin.told()I -/
def xw10_told (x0 : Nat) (K : XK) (u : XS) (Post : Int32 → XS → Prop) : Prop :=
  Post (1 : Int32) u
set_option maxHeartbeats 4000000 in
set_option maxRecDepth 100000 in
theorem mxw10_told (l : Launch) (hfl : l.stackTraces = false) (D : va_G) (dA aK aV : Nat → Nat) (x0 : Nat) (K : XK) (u : XS) (Post : Int32 → XS → Prop) (h : xw10_told x0 K u Post) (sz : Nat) : Met l yX10_told (ws_ yX10_told cX10_told 1 (Option.some Jvm.ClassFile.FieldType.int)) (jx_rm 0 0 0 0) (jx_Pc D dA aK aV K u sz [.ref x0]) (va_Qi (fun (r : Int32) (w : XS) => Post r w) (jx_B D dA K) (AX K sz)) 0 0 (AX K sz) := by
  refine jx_start hfl [.ref x0] [(0, .ref x0)] (by decide) (Nat.le_of_ble_eq_true rfl) rfl (fun X hX hY hin => ?_)
  unfold xw10_told at h
  refine jj_iconst hX dX10_told_0 ci_1 1 rfl ?_
  exact jj_reti (post := (fun (r : Int32) (w : XS) => Post r w)) (u := u) hX dX10_told_1 (Nat.le_refl 0) (Nat.le_refl 0) jx_hB h
theorem hd_xw10_told : yX10_told.cls ≠ "java/lang/invoke/MethodHandle" ∧ yX10_told.cls ≠ "java/lang/invoke/VarHandle" ∧ (parseMethodDescriptor yX10_told.desc).map (fun d => d.parameters.length) = some 0 := by decide +kernel
/-- RaisedPress$Middle.told()I -/
def xw11_told (x0 : Nat) (K : XK) (u : XS) (Post : Int32 → XS → Prop) : Prop :=
  Post (2 : Int32) u
set_option maxHeartbeats 4000000 in
set_option maxRecDepth 100000 in
theorem mxw11_told (l : Launch) (hfl : l.stackTraces = false) (D : va_G) (dA aK aV : Nat → Nat) (x0 : Nat) (K : XK) (u : XS) (Post : Int32 → XS → Prop) (h : xw11_told x0 K u Post) (sz : Nat) : Met l yX11_told (ws_ yX11_told cX11_told 1 (Option.some Jvm.ClassFile.FieldType.int)) (jx_rm 0 0 0 0) (jx_Pc D dA aK aV K u sz [.ref x0]) (va_Qi (fun (r : Int32) (w : XS) => Post r w) (jx_B D dA K) (AX K sz)) 0 0 (AX K sz) := by
  refine jx_start hfl [.ref x0] [(0, .ref x0)] (by decide) (Nat.le_of_ble_eq_true rfl) rfl (fun X hX hY hin => ?_)
  unfold xw11_told at h
  refine jj_iconst hX dX11_told_0 ci_2 1 rfl ?_
  exact jj_reti (post := (fun (r : Int32) (w : XS) => Post r w)) (u := u) hX dX11_told_1 (Nat.le_refl 0) (Nat.le_refl 0) jx_hB h
theorem hd_xw11_told : yX11_told.cls ≠ "java/lang/invoke/MethodHandle" ∧ yX11_told.cls ≠ "java/lang/invoke/VarHandle" ∧ (parseMethodDescriptor yX11_told.desc).map (fun d => d.parameters.length) = some 0 := by decide +kernel
/-- RaisedPress$Ending.told()I -/
def xw12_told (x0 : Nat) (K : XK) (u : XS) (Post : Int32 → XS → Prop) : Prop :=
  Post (3 : Int32) u
set_option maxHeartbeats 4000000 in
set_option maxRecDepth 100000 in
theorem mxw12_told (l : Launch) (hfl : l.stackTraces = false) (D : va_G) (dA aK aV : Nat → Nat) (x0 : Nat) (K : XK) (u : XS) (Post : Int32 → XS → Prop) (h : xw12_told x0 K u Post) (sz : Nat) : Met l yX12_told (ws_ yX12_told cX12_told 1 (Option.some Jvm.ClassFile.FieldType.int)) (jx_rm 0 0 0 0) (jx_Pc D dA aK aV K u sz [.ref x0]) (va_Qi (fun (r : Int32) (w : XS) => Post r w) (jx_B D dA K) (AX K sz)) 0 0 (AX K sz) := by
  refine jx_start hfl [.ref x0] [(0, .ref x0)] (by decide) (Nat.le_of_ble_eq_true rfl) rfl (fun X hX hY hin => ?_)
  unfold xw12_told at h
  refine jj_iconst hX dX12_told_0 ci_3 1 rfl ?_
  exact jj_reti (post := (fun (r : Int32) (w : XS) => Post r w)) (u := u) hX dX12_told_1 (Nat.le_refl 0) (Nat.le_refl 0) jx_hB h
theorem hd_xw12_told : yX12_told.cls ≠ "java/lang/invoke/MethodHandle" ∧ yX12_told.cls ≠ "java/lang/invoke/VarHandle" ∧ (parseMethodDescriptor yX12_told.desc).map (fun d => d.parameters.length) = some 0 := by decide +kernel
/-- RaisedPress$Alone.told()I -/
def xw13_told (x0 : Nat) (K : XK) (u : XS) (Post : Int32 → XS → Prop) : Prop :=
  Post (4 : Int32) u
set_option maxHeartbeats 4000000 in
set_option maxRecDepth 100000 in
theorem mxw13_told (l : Launch) (hfl : l.stackTraces = false) (D : va_G) (dA aK aV : Nat → Nat) (x0 : Nat) (K : XK) (u : XS) (Post : Int32 → XS → Prop) (h : xw13_told x0 K u Post) (sz : Nat) : Met l yX13_told (ws_ yX13_told cX13_told 1 (Option.some Jvm.ClassFile.FieldType.int)) (jx_rm 0 0 0 0) (jx_Pc D dA aK aV K u sz [.ref x0]) (va_Qi (fun (r : Int32) (w : XS) => Post r w) (jx_B D dA K) (AX K sz)) 0 0 (AX K sz) := by
  refine jx_start hfl [.ref x0] [(0, .ref x0)] (by decide) (Nat.le_of_ble_eq_true rfl) rfl (fun X hX hY hin => ?_)
  unfold xw13_told at h
  refine jj_iconst hX dX13_told_0 ci_4 1 rfl ?_
  exact jj_reti (post := (fun (r : Int32) (w : XS) => Post r w)) (u := u) hX dX13_told_1 (Nat.le_refl 0) (Nat.le_refl 0) jx_hB h
theorem hd_xw13_told : yX13_told.cls ≠ "java/lang/invoke/MethodHandle" ∧ yX13_told.cls ≠ "java/lang/invoke/VarHandle" ∧ (parseMethodDescriptor yX13_told.desc).map (fun d => d.parameters.length) = some 0 := by decide +kernel
/-- RaisedPress$Anywhere.told()I -/
def xw14_told (x0 : Nat) (K : XK) (u : XS) (Post : Int32 → XS → Prop) : Prop :=
  Post (0 : Int32) u
set_option maxHeartbeats 4000000 in
set_option maxRecDepth 100000 in
theorem mxw14_told (l : Launch) (hfl : l.stackTraces = false) (D : va_G) (dA aK aV : Nat → Nat) (x0 : Nat) (K : XK) (u : XS) (Post : Int32 → XS → Prop) (h : xw14_told x0 K u Post) (sz : Nat) : Met l yX14_told (ws_ yX14_told cX14_told 1 (Option.some Jvm.ClassFile.FieldType.int)) (jx_rm 0 0 0 0) (jx_Pc D dA aK aV K u sz [.ref x0]) (va_Qi (fun (r : Int32) (w : XS) => Post r w) (jx_B D dA K) (AX K sz)) 0 0 (AX K sz) := by
  refine jx_start hfl [.ref x0] [(0, .ref x0)] (by decide) (Nat.le_of_ble_eq_true rfl) rfl (fun X hX hY hin => ?_)
  unfold xw14_told at h
  refine jj_iconst hX dX14_told_0 ci_0 1 rfl ?_
  exact jj_reti (post := (fun (r : Int32) (w : XS) => Post r w)) (u := u) hX dX14_told_1 (Nat.le_refl 0) (Nat.le_refl 0) jx_hB h
theorem hd_xw14_told : yX14_told.cls ≠ "java/lang/invoke/MethodHandle" ∧ yX14_told.cls ≠ "java/lang/invoke/VarHandle" ∧ (parseMethodDescriptor yX14_told.desc).map (fun d => d.parameters.length) = some 0 := by decide +kernel
def xabs_told (x0 : Nat) (K : XK) (u : XS) (Post : Int32 → XS → Prop) : Prop :=
  (K x0 = (1, 10) → xw10_told x0  K u Post) ∧
  (K x0 = (1, 11) → xw11_told x0  K u Post) ∧
  (K x0 = (1, 12) → xw12_told x0  K u Post) ∧
  (K x0 = (1, 13) → xw13_told x0  K u Post) ∧
  (K x0 = (1, 14) → xw14_told x0  K u Post)
def yR_told : MethodName := ⟨"RaisedPress$Rule", "told", "()I"⟩
theorem hd_xabs_told : "RaisedPress$Rule" ≠ "java/lang/invoke/MethodHandle" ∧ "RaisedPress$Rule" ≠ "java/lang/invoke/VarHandle" ∧ (parseMethodDescriptor yR_told.desc).map (fun d => d.parameters.length) = some 0 := by decide +kernel
theorem kxabs_told {X : JC} {A : Nat → Prop} {Q : State → Prop} {nL k n pc : Nat} {lv : List (Nat × Value)} {st : List Value} {own : String} {cc : ByteArray} {ret : Option FieldType} {F LL mc ms ix : Nat} {D : va_G} {dA aK aV : Nat → Nat} {K : XK} {u : XS} {x0 : Nat} {Post : Int32 → XS → Prop} (hX : JX X own cc nL ret F LL mc ms) (hY : JY X D dA aK aV A) (hr : xRule K x0) (hlk : (Cond.methodLink own ix yR_told) ∈ lw_all) (hF : 0 + 1 ≤ F) (hL : 8 + (1 + 11) + 0 ≤ LL) (hk : k ≤ mc) (hk2 : n ≤ ms) (hw : (st.map fun v => v.category).sum ≤ 8) (d : decode cc pc = .ok (.invokevirtual ix, 3)) (q : Nat) (hq : pc + 3 = q) (h : xabs_told x0  K u Post) (kk : ∀ (r : Int32) (u2 : XS), Post r u2 → JJ X A Q nL (XP D dA A K u2) k n q lv (.int r :: st)) : JJ X A Q nL (XP D dA A K u) k n pc lv (.ref x0 :: st) := by
  obtain ⟨c, c1, c2, h1a⟩ := hr
  rcases (show c = 10 ∨ c = 11 ∨ c = 12 ∨ c = 13 ∨ c = 14 by omega) with rfl | rfl | rfl | rfl | rfl
  · exact jx_callUi (na := 0) (As := []) (C := RX10) (xm := yR_told) (owner := "RaisedPress$Rule") hX hY jf10 h1a (fun sz => mxw10_told (jj_l X) hY.2.2.2.2 D dA aK aV x0  K u Post (h.1 h1a) sz) (va_cwA 0 hX.2.2.2.2.1 (lw_U hlk q824 q831 q832 q141 q833) rfl rfl rfl (va_Nw.of rfl (hY.2.1.use (A := #[]) nq823)) hd_xabs_told ⟨by rw [hX.2.2.2.2.2.2.2.1]; omega, by rw [hX.2.2.2.2.2.2.2.2.1]; omega⟩) rfl rfl hw hk hk2 d q hq kk
  · exact jx_callUi (na := 0) (As := []) (C := RX11) (xm := yR_told) (owner := "RaisedPress$Rule") hX hY jf11 h1a (fun sz => mxw11_told (jj_l X) hY.2.2.2.2 D dA aK aV x0  K u Post (h.2.1 h1a) sz) (va_cwA 0 hX.2.2.2.2.1 (lw_U hlk q824 q837 q838 q142 q839) rfl rfl rfl (va_Nw.of rfl (hY.2.1.use (A := #[]) nq823)) hd_xabs_told ⟨by rw [hX.2.2.2.2.2.2.2.1]; omega, by rw [hX.2.2.2.2.2.2.2.2.1]; omega⟩) rfl rfl hw hk hk2 d q hq kk
  · exact jx_callUi (na := 0) (As := []) (C := RX12) (xm := yR_told) (owner := "RaisedPress$Rule") hX hY jf12 h1a (fun sz => mxw12_told (jj_l X) hY.2.2.2.2 D dA aK aV x0  K u Post (h.2.2.1 h1a) sz) (va_cwA 0 hX.2.2.2.2.1 (lw_U hlk q824 q834 q835 q143 q836) rfl rfl rfl (va_Nw.of rfl (hY.2.1.use (A := #[]) nq823)) hd_xabs_told ⟨by rw [hX.2.2.2.2.2.2.2.1]; omega, by rw [hX.2.2.2.2.2.2.2.2.1]; omega⟩) rfl rfl hw hk hk2 d q hq kk
  · exact jx_callUi (na := 0) (As := []) (C := RX13) (xm := yR_told) (owner := "RaisedPress$Rule") hX hY jf13 h1a (fun sz => mxw13_told (jj_l X) hY.2.2.2.2 D dA aK aV x0  K u Post (h.2.2.2.1 h1a) sz) (va_cwA 0 hX.2.2.2.2.1 (lw_U hlk q824 q825 q826 q144 q827) rfl rfl rfl (va_Nw.of rfl (hY.2.1.use (A := #[]) nq823)) hd_xabs_told ⟨by rw [hX.2.2.2.2.2.2.2.1]; omega, by rw [hX.2.2.2.2.2.2.2.2.1]; omega⟩) rfl rfl hw hk hk2 d q hq kk
  · exact jx_callUi (na := 0) (As := []) (C := RX14) (xm := yR_told) (owner := "RaisedPress$Rule") hX hY jf14 h1a (fun sz => mxw14_told (jj_l X) hY.2.2.2.2 D dA aK aV x0  K u Post (h.2.2.2.2 h1a) sz) (va_cwA 0 hX.2.2.2.2.1 (lw_U hlk q824 q828 q829 q145 q830) rfl rfl rfl (va_Nw.of rfl (hY.2.1.use (A := #[]) nq823)) hd_xabs_told ⟨by rw [hX.2.2.2.2.2.2.2.1]; omega, by rw [hX.2.2.2.2.2.2.2.2.1]; omega⟩) rfl rfl hw hk hk2 d q hq kk
/-- RaisedPress$Rule.isJust(I)Z -/
def xw9_isJust (x0 : Nat) (x1 : Int32) (K : XK) (u : XS) (Post : Int32 → XS → Prop) : Prop :=
  xRule K x0 ∧
  xabs_told x0 K u (fun r1 u1 =>
    (¬ r1 = 0 →
      Post (0 : Int32) u1) ∧
    (r1 = 0 →
      ∃ b11, (xr u1 x0 0) = some b11 ∧
      ∃ n11, K b11 = (3, n11) ∧
      (¬ (nI n11) = (1 : Int32) →
        Post (0 : Int32) u1) ∧
      ((nI n11) = (1 : Int32) →
        ∃ b21, (xr u1 x0 0) = some b21 ∧
        ∃ n21, K b21 = (3, n21) ∧
        vp_in (0 : Int32) n21 ∧
        (¬ (xi u1 b21 0) = x1 →
          Post (0 : Int32) u1) ∧
        ((xi u1 b21 0) = x1 →
          Post (1 : Int32) u1))))
set_option maxHeartbeats 4000000 in
set_option maxRecDepth 100000 in
theorem mxw9_isJust (l : Launch) (hfl : l.stackTraces = false) (D : va_G) (dA aK aV : Nat → Nat) (x0 : Nat) (x1 : Int32) (K : XK) (u : XS) (Post : Int32 → XS → Prop) (h : xw9_isJust x0 x1 K u Post) (sz : Nat) : Met l yX9_isJust (ws_ yX9_isJust cX9_isJust 2 (Option.some Jvm.ClassFile.FieldType.boolean)) (jx_rm 1 20 0 0) (jx_Pc D dA aK aV K u sz [.ref x0, .int x1]) (va_Qi (fun (r : Int32) (w : XS) => Post r w ∧ jj_z r) (jx_B D dA K) (AX K sz)) 0 0 (AX K sz) := by
  refine jx_start hfl [.ref x0, .int x1] [(0, .ref x0), (1, .int x1)] (by decide) (Nat.le_of_ble_eq_true rfl) rfl (fun X hX hY hin => ?_)
  unfold xw9_isJust at h
  refine jj_aload_n hX dX9_isJust_0 0 rfl 1 rfl ?_
  obtain ⟨k1, h⟩ := h
  refine kxabs_told hX hY k1 q849 (Nat.le_of_ble_eq_true rfl) (Nat.le_of_ble_eq_true rfl) (Nat.zero_le _) (Nat.zero_le _) (Nat.le_of_ble_eq_true rfl) dX9_isJust_1 4 rfl h (fun r1 u1 h => ?_)
  refine jj_if_ne hX dX9_isJust_4 30 7 (by decide) rfl (fun c4 => ?_) (fun c4 => ?_)
  · have h := h.1 c4
    refine jj_iconst hX dX9_isJust_30 ci_0 31 rfl ?_
    exact jj_retz (post := (fun (r : Int32) (w : XS) => Post r w)) (u := u1) hX dX9_isJust_31 (Nat.le_refl 0) (Nat.le_refl 0) jx_hB jj_z0 h
  · have h := h.2 c4
    refine jj_aload_n hX dX9_isJust_7 0 rfl 8 rfl ?_
    refine xgr_0 hX hY k1 dX9_isJust_8 q772 11 rfl ?_
    obtain ⟨b11, g11, h⟩ := h
    refine jj_st (st2 := [.ref b11]) (by rw [va_rf_some g11]) ?_
    obtain ⟨n11, k11, h⟩ := h
    refine jx_alen hX hY.1 k11 dX9_isJust_11 12 rfl ?_
    refine jj_iconst hX dX9_isJust_12 ci_1 13 rfl ?_
    refine jj_icmp_ne hX dX9_isJust_13 30 16 (by decide) rfl (fun c13 => ?_) (fun c13 => ?_)
    · have h := h.1 c13
      refine jj_iconst hX dX9_isJust_30 ci_0 31 rfl ?_
      exact jj_retz (post := (fun (r : Int32) (w : XS) => Post r w)) (u := u1) hX dX9_isJust_31 (Nat.le_refl 0) (Nat.le_refl 0) jx_hB jj_z0 h
    · have h := h.2 c13
      refine jj_aload_n hX dX9_isJust_16 0 rfl 17 rfl ?_
      refine xgr_0 hX hY k1 dX9_isJust_17 q772 20 rfl ?_
      refine jj_iconst hX dX9_isJust_20 ci_0 21 rfl ?_
      obtain ⟨b21, g21, h⟩ := h
      refine jj_st (st2 := [.int (0 : Int32), .ref b21]) (by rw [va_rf_some g21]) ?_
      obtain ⟨n21, k21, h⟩ := h
      obtain ⟨hi21, h⟩ := h
      refine jx_bald hX hY.1 k21 0 kc_0 hi21 dX9_isJust_21 22 rfl ?_
      refine jj_iload_n hX dX9_isJust_22 1 rfl 23 rfl ?_
      refine jj_icmp_ne hX dX9_isJust_23 30 26 (by decide) rfl (fun c23 => ?_) (fun c23 => ?_)
      · have h := h.1 c23
        refine jj_iconst hX dX9_isJust_30 ci_0 31 rfl ?_
        exact jj_retz (post := (fun (r : Int32) (w : XS) => Post r w)) (u := u1) hX dX9_isJust_31 (Nat.le_refl 0) (Nat.le_refl 0) jx_hB jj_z0 h
      · have h := h.2 c23
        refine jj_iconst hX dX9_isJust_26 ci_1 27 rfl ?_
        refine jj_goto hX dX9_isJust_27 31 (by decide) ?_
        exact jj_retz (post := (fun (r : Int32) (w : XS) => Post r w)) (u := u1) hX dX9_isJust_31 (Nat.le_refl 0) (Nat.le_refl 0) jx_hB jj_z1 h
theorem hd_xw9_isJust : yX9_isJust.cls ≠ "java/lang/invoke/MethodHandle" ∧ yX9_isJust.cls ≠ "java/lang/invoke/VarHandle" ∧ (parseMethodDescriptor yX9_isJust.desc).map (fun d => d.parameters.length) = some 1 := by decide +kernel
theorem kxw9_isJust {X : JC} {A : Nat → Prop} {Q : State → Prop} {nL k n pc : Nat} {lv : List (Nat × Value)} {st : List Value} {own : String} {cc : ByteArray} {ret : Option FieldType} {F LL mc ms ix : Nat} {D : va_G} {dA aK aV : Nat → Nat} {K : XK} {u : XS} {x0 : Nat} {x1 : Int32} {Post : Int32 → XS → Prop} (hX : JX X own cc nL ret F LL mc ms) (hY : JY X D dA aK aV A) (hr : xRule K x0) (hlk : (Cond.methodLink own ix yX9_isJust) ∈ lw_all) (hF : 1 + 1 ≤ F) (hL : 8 + (2 + 11) + 20 ≤ LL) (hk : k ≤ mc) (hk2 : n ≤ ms) (hw : (st.map fun v => v.category).sum ≤ 8) (d : decode cc pc = .ok (.invokevirtual ix, 3)) (q : Nat) (hq : pc + 3 = q) (h : xw9_isJust x0 x1 K u  Post) (kk : ∀ (r : Int32) (u2 : XS), jj_z r → Post r u2 → JJ X A Q nL (XP D dA A K u2) k n q lv (.int r :: st)) : JJ X A Q nL (XP D dA A K u) k n pc lv (.int x1 :: .ref x0 :: st) := by
  obtain ⟨c, c1, c2, h1a⟩ := hr
  rcases (show c = 10 ∨ c = 11 ∨ c = 12 ∨ c = 13 ∨ c = 14 by omega) with rfl | rfl | rfl | rfl | rfl
  · exact jx_callUz (na := 1) (As := [.int x1]) (C := RX10) hX hY jf10 h1a (fun sz => mxw9_isJust (jj_l X) hY.2.2.2.2 D dA aK aV x0 x1 K u  Post h sz) (va_cwU 1 hX.2.2.2.2.1 (lw_U hlk q965 q968 q964 q140 q971) rfl rfl rfl rfl hd_xw9_isJust ⟨by rw [hX.2.2.2.2.2.2.2.1]; exact hF, by rw [hX.2.2.2.2.2.2.2.2.1]; exact hL⟩) rfl rfl hw hk hk2 d q hq kk
  · exact jx_callUz (na := 1) (As := [.int x1]) (C := RX11) hX hY jf11 h1a (fun sz => mxw9_isJust (jj_l X) hY.2.2.2.2 D dA aK aV x0 x1 K u  Post h sz) (va_cwU 1 hX.2.2.2.2.1 (lw_U hlk q965 q970 q964 q140 q971) rfl rfl rfl rfl hd_xw9_isJust ⟨by rw [hX.2.2.2.2.2.2.2.1]; exact hF, by rw [hX.2.2.2.2.2.2.2.2.1]; exact hL⟩) rfl rfl hw hk hk2 d q hq kk
  · exact jx_callUz (na := 1) (As := [.int x1]) (C := RX12) hX hY jf12 h1a (fun sz => mxw9_isJust (jj_l X) hY.2.2.2.2 D dA aK aV x0 x1 K u  Post h sz) (va_cwU 1 hX.2.2.2.2.1 (lw_U hlk q965 q969 q964 q140 q971) rfl rfl rfl rfl hd_xw9_isJust ⟨by rw [hX.2.2.2.2.2.2.2.1]; exact hF, by rw [hX.2.2.2.2.2.2.2.2.1]; exact hL⟩) rfl rfl hw hk hk2 d q hq kk
  · exact jx_callUz (na := 1) (As := [.int x1]) (C := RX13) hX hY jf13 h1a (fun sz => mxw9_isJust (jj_l X) hY.2.2.2.2 D dA aK aV x0 x1 K u  Post h sz) (va_cwU 1 hX.2.2.2.2.1 (lw_U hlk q965 q966 q964 q140 q971) rfl rfl rfl rfl hd_xw9_isJust ⟨by rw [hX.2.2.2.2.2.2.2.1]; exact hF, by rw [hX.2.2.2.2.2.2.2.2.1]; exact hL⟩) rfl rfl hw hk hk2 d q hq kk
  · exact jx_callUz (na := 1) (As := [.int x1]) (C := RX14) hX hY jf14 h1a (fun sz => mxw9_isJust (jj_l X) hY.2.2.2.2 D dA aK aV x0 x1 K u  Post h sz) (va_cwU 1 hX.2.2.2.2.1 (lw_U hlk q965 q967 q964 q140 q971) rfl rfl rfl rfl hd_xw9_isJust ⟨by rw [hX.2.2.2.2.2.2.2.1]; exact hF, by rw [hX.2.2.2.2.2.2.2.2.1]; exact hL⟩) rfl rfl hw hk hk2 d q hq kk
def xw6_justFor_L2_S (Post : Int32 → XS → Prop) (K : XK) (x0 : Nat) (x1 : Int32) (R : Int32 → XS → Prop) (x2 : Int32) (u : XS) : Prop :=
  K x0 = (1, 6) ∧
  ∃ b7, (xr u x0 0) = some b7 ∧
  K b7 = (1, 5) ∧
  ((xi u b7 1) ≤ x2 →
    Post (-1 : Int32) u) ∧
  (¬ (xi u b7 1) ≤ x2 →
    xw6_isThere x0 x2 K u (fun r15 u15 =>
      (r15 = 0 →
        ∀ v39 : Int32, v39 = x2 + (1 : Int32) →
        R v39 u15) ∧
      (¬ r15 = 0 →
        ∃ b25, (xr u15 x0 0) = some b25 ∧
        K b25 = (1, 5) ∧
        ∃ b29, (xr u15 b25 0) = some b29 ∧
        ∃ n29, K b29 = (7, n29) ∧
        vp_in x2 n29 ∧
        ∃ b31, (xr u15 b29 x2.toNatClampNeg) = some b31 ∧
        xRule K b31 ∧
        xw9_isJust b31 x1 K u15 (fun r31 u31 =>
          (r31 = 0 →
            ∀ v39 : Int32, v39 = x2 + (1 : Int32) →
            R v39 u31) ∧
          (¬ r31 = 0 →
            Post x2 u31)))))
def xw6_justFor_L2 (Post : Int32 → XS → Prop) (K : XK) (x0 : Nat) (x1 : Int32) : Nat → Int32 → XS → Prop
  | 0 => fun _ _ => False
  | n + 1 => fun x2 u => xw6_justFor_L2_S Post K x0 x1 (xw6_justFor_L2 Post K x0 x1 n) x2 u
/-- RaisedPress$Setter.justFor(I)I -/
def xw6_justFor (x0 : Nat) (x1 : Int32) (K : XK) (u : XS) (Post : Int32 → XS → Prop) : Prop :=
  ∃ n, xw6_justFor_L2 Post K x0 x1 n (0 : Int32) u
set_option maxHeartbeats 4000000 in
set_option maxRecDepth 100000 in
theorem txw6_justFor_L2 {X : JC} {D : va_G} {dA aK aV : Nat → Nat} {sz : Nat} {K : XK} {Post : Int32 → XS → Prop} {x0 : Nat} {x1 : Int32} (hX : JX X yX6_justFor.cls cX6_justFor 3 (Option.some Jvm.ClassFile.FieldType.int) 2 41 0 0) (hY : JY X D dA aK aV (AX K sz)) : ∀ (n : Nat) (x2 : Int32) (u : XS), xw6_justFor_L2 Post K x0 x1 n x2 u → JJ X (AX K sz) (jj_Q X (va_Qi (fun (r : Int32) (w : XS) => Post r w) (jx_B D dA K) (AX K sz)) 0 0 (AX K sz)) 3 (XP D dA (AX K sz) K u) 0 0 2 [(0, .ref x0), (1, .int x1), (2, .int x2)] [] := by
  intro n
  induction n with
  | zero =>
    intro x2 u h
    exact h.elim
  | succ n ih =>
    intro x2 u h
    have h : xw6_justFor_L2_S Post K x0 x1 (xw6_justFor_L2 Post K x0 x1 n) x2 u := h
    unfold xw6_justFor_L2_S at h
    refine jj_iload_n hX dX6_justFor_2 2 rfl 3 rfl ?_
    refine jj_aload_n hX dX6_justFor_3 0 rfl 4 rfl ?_
    obtain ⟨k4, h⟩ := h
    refine xg6_0 hX hY k4 dX6_justFor_4 q334 7 rfl ?_
    obtain ⟨b7, g7, h⟩ := h
    refine jj_st (st2 := [.ref b7, .int x2]) (by rw [va_rf_some g7]) ?_
    obtain ⟨k7, h⟩ := h
    refine xgn5_1 hX hY k7 dX6_justFor_7 nq277 10 rfl ?_
    refine jj_icmp_ge hX dX6_justFor_10 45 13 (by decide) rfl (fun c10 => ?_) (fun c10 => ?_)
    · have h := h.1 c10
      refine jj_iconst hX dX6_justFor_45 ci_m1 46 rfl ?_
      exact jj_reti (post := (fun (r : Int32) (w : XS) => Post r w)) (u := u) hX dX6_justFor_46 (Nat.le_refl 0) (Nat.le_refl 0) jx_hB h
    · have h := h.2 c10
      refine jj_aload_n hX dX6_justFor_13 0 rfl 14 rfl ?_
      refine jj_iload_n hX dX6_justFor_14 2 rfl 15 rfl ?_
      refine kxw6_isThere hX hY k4 q919 (Nat.le_of_ble_eq_true rfl) (Nat.le_of_ble_eq_true rfl) (Nat.zero_le _) (Nat.zero_le _) (Nat.le_of_ble_eq_true rfl) dX6_justFor_15 18 rfl h (fun r15 u15 hb15 h => ?_)
      refine jj_if_eq hX dX6_justFor_18 39 21 (by decide) rfl (fun c18 => ?_) (fun c18 => ?_)
      · have h := h.1 c18
        obtain ⟨v39, e39⟩ : ∃ y : Int32, y = x2 + (1 : Int32) := ⟨_, rfl⟩
        have h := h v39 e39
        refine jj_iinc (v := v39) (lv2 := [(0, .ref x0), (1, .int x1), (2, .int v39)]) hX dX6_justFor_39 2 rfl (by rw [e39, ci_1]) (Nat.le_of_ble_eq_true rfl) [1, 2, 0] rfl 42 rfl ?_
        refine jj_goto hX dX6_justFor_42 2 (by decide) ?_
        exact ih _ _ h
      · have h := h.2 c18
        refine jj_aload_n hX dX6_justFor_21 0 rfl 22 rfl ?_
        refine xg6_0 hX hY k4 dX6_justFor_22 q334 25 rfl ?_
        obtain ⟨b25, g25, h⟩ := h
        refine jj_st (st2 := [.ref b25]) (by rw [va_rf_some g25]) ?_
        obtain ⟨k25, h⟩ := h
        refine xgn5_0 hX hY k25 dX6_justFor_25 nq274 28 rfl ?_
        refine jj_iload_n hX dX6_justFor_28 2 rfl 29 rfl ?_
        obtain ⟨b29, g29, h⟩ := h
        refine jj_st (st2 := [.int x2, .ref b29]) (by rw [va_rf_some g29]) ?_
        obtain ⟨n29, k29, h⟩ := h
        obtain ⟨hi29, h⟩ := h
        refine jx_aald5 hX hY.1 k29 _ rfl hi29 dX6_justFor_29 30 rfl ?_
        refine jj_iload_n hX dX6_justFor_30 1 rfl 31 rfl ?_
        obtain ⟨b31, g31, h⟩ := h
        refine jj_st (st2 := [.int x1, .ref b31]) (by rw [va_rf_some g31]) ?_
        obtain ⟨k31, h⟩ := h
        refine kxw9_isJust hX hY k31 q963 (Nat.le_of_ble_eq_true rfl) (Nat.le_of_ble_eq_true rfl) (Nat.zero_le _) (Nat.zero_le _) (Nat.le_of_ble_eq_true rfl) dX6_justFor_31 34 rfl h (fun r31 u31 hb31 h => ?_)
        refine jj_if_eq hX dX6_justFor_34 39 37 (by decide) rfl (fun c34 => ?_) (fun c34 => ?_)
        · have h := h.1 c34
          obtain ⟨v39, e39⟩ : ∃ y : Int32, y = x2 + (1 : Int32) := ⟨_, rfl⟩
          have h := h v39 e39
          refine jj_iinc (v := v39) (lv2 := [(0, .ref x0), (1, .int x1), (2, .int v39)]) hX dX6_justFor_39 2 rfl (by rw [e39, ci_1]) (Nat.le_of_ble_eq_true rfl) [1, 2, 0] rfl 42 rfl ?_
          refine jj_goto hX dX6_justFor_42 2 (by decide) ?_
          exact ih _ _ h
        · have h := h.2 c34
          refine jj_iload_n hX dX6_justFor_37 2 rfl 38 rfl ?_
          exact jj_reti (post := (fun (r : Int32) (w : XS) => Post r w)) (u := u31) hX dX6_justFor_38 (Nat.le_refl 0) (Nat.le_refl 0) jx_hB h
set_option maxHeartbeats 4000000 in
set_option maxRecDepth 100000 in
theorem mxw6_justFor (l : Launch) (hfl : l.stackTraces = false) (D : va_G) (dA aK aV : Nat → Nat) (x0 : Nat) (x1 : Int32) (K : XK) (u : XS) (Post : Int32 → XS → Prop) (h : xw6_justFor x0 x1 K u Post) (sz : Nat) : Met l yX6_justFor (ws_ yX6_justFor cX6_justFor 3 (Option.some Jvm.ClassFile.FieldType.int)) (jx_rm 2 41 0 0) (jx_Pc D dA aK aV K u sz [.ref x0, .int x1]) (va_Qi (fun (r : Int32) (w : XS) => Post r w) (jx_B D dA K) (AX K sz)) 0 0 (AX K sz) := by
  refine jx_start hfl [.ref x0, .int x1] [(0, .ref x0), (1, .int x1)] (by decide) (Nat.le_of_ble_eq_true rfl) rfl (fun X hX hY hin => ?_)
  unfold xw6_justFor at h
  refine jj_iconst hX dX6_justFor_0 ci_0 1 rfl ?_
  refine jj_istore_n (lv2 := [(0, .ref x0), (1, .int x1), (2, .int (0 : Int32))]) hX dX6_justFor_1 (Nat.le_of_ble_eq_true rfl) [1, 2, 0] rfl 2 rfl ?_
  obtain ⟨n9, h⟩ := h
  exact txw6_justFor_L2 hX hY n9 _ _ h
theorem hd_xw6_justFor : yX6_justFor.cls ≠ "java/lang/invoke/MethodHandle" ∧ yX6_justFor.cls ≠ "java/lang/invoke/VarHandle" ∧ (parseMethodDescriptor yX6_justFor.desc).map (fun d => d.parameters.length) = some 1 := by decide +kernel
theorem kxw6_justFor {X : JC} {A : Nat → Prop} {Q : State → Prop} {nL k n pc : Nat} {lv : List (Nat × Value)} {st : List Value} {own : String} {cc : ByteArray} {ret : Option FieldType} {F LL mc ms ix : Nat} {D : va_G} {dA aK aV : Nat → Nat} {K : XK} {u : XS} {x0 : Nat} {x1 : Int32} {Post : Int32 → XS → Prop} (hX : JX X own cc nL ret F LL mc ms) (hY : JY X D dA aK aV A) (h1a : K x0 = (1, 6)) (hlk : (Cond.methodLink own ix yX6_justFor) ∈ lw_all) (hF : 2 + 1 ≤ F) (hL : 8 + (3 + 11) + 41 ≤ LL) (hk : k ≤ mc) (hk2 : n ≤ ms) (hw : (st.map fun v => v.category).sum ≤ 8) (d : decode cc pc = .ok (.invokevirtual ix, 3)) (q : Nat) (hq : pc + 3 = q) (h : xw6_justFor x0 x1 K u  Post) (kk : ∀ (r : Int32) (u2 : XS), Post r u2 → JJ X A Q nL (XP D dA A K u2) k n q lv (.int r :: st)) : JJ X A Q nL (XP D dA A K u) k n pc lv (.int x1 :: .ref x0 :: st) :=
  jx_callVi (na := 1) (As := [.int x1]) hX hY jf6 h1a (fun sz => mxw6_justFor (jj_l X) hY.2.2.2.2 D dA aK aV x0 x1 K u  Post h sz) hlk q960 q961 q128 q962 ⟨rfl, hd_xw6_justFor⟩ rfl rfl hw hF hL hk hk2 d q hq kk
theorem knxw6_justFor {X : JC} {A : Nat → Prop} {Q : State → Prop} {nL k n pc : Nat} {lv : List (Nat × Value)} {st : List Value} {own : String} {cc : ByteArray} {ret : Option FieldType} {F LL mc ms ix : Nat} {D : va_G} {dA aK aV : Nat → Nat} {K : XK} {u : XS} {x0 : Nat} {x1 : Int32} {host : String} {Post : Int32 → XS → Prop} (hX : JX X own cc nL ret F LL mc ms) (hY : JY X D dA aK aV A) (h1a : K x0 = (1, 6)) (hlk : (Cond.methodLinkNest own ix yX6_justFor host) ∈ jx_nest) (hF : 2 + 1 ≤ F) (hL : 8 + (3 + 11) + 41 ≤ LL) (hk : k ≤ mc) (hk2 : n ≤ ms) (hw : (st.map fun v => v.category).sum ≤ 8) (d : decode cc pc = .ok (.invokevirtual ix, 3)) (q : Nat) (hq : pc + 3 = q) (h : xw6_justFor x0 x1 K u  Post) (kk : ∀ (r : Int32) (u2 : XS), Post r u2 → JJ X A Q nL (XP D dA A K u2) k n q lv (.int r :: st)) : JJ X A Q nL (XP D dA A K u) k n pc lv (.int x1 :: .ref x0 :: st) :=
  jx_callNi (na := 1) (As := [.int x1]) hX hY jf6 h1a (fun sz => mxw6_justFor (jj_l X) hY.2.2.2.2 D dA aK aV x0 x1 K u  Post h sz) hlk q960 q961 q128 q962 hd_xw6_justFor rfl rfl hw hF hL hk hk2 d q hq kk
/-- RaisedPress$Setter.digitRule(I)I -/
def xw6_digitRule (x0 : Nat) (x1 : Int32) (K : XK) (u : XS) (Post : Int32 → XS → Prop) : Prop :=
  (¬ x1 = (48 : Int32) →
    K x0 = (1, 6) ∧
    xw6_justFor x0 (((97 : Int32) + x1) - (49 : Int32)) K u (fun r19 u19 =>
      Post r19 u19)) ∧
  (x1 = (48 : Int32) →
    K x0 = (1, 6) ∧
    xw6_justFor x0 (106 : Int32) K u (fun r19 u19 =>
      Post r19 u19))
set_option maxHeartbeats 4000000 in
set_option maxRecDepth 100000 in
theorem mxw6_digitRule (l : Launch) (hfl : l.stackTraces = false) (D : va_G) (dA aK aV : Nat → Nat) (x0 : Nat) (x1 : Int32) (K : XK) (u : XS) (Post : Int32 → XS → Prop) (h : xw6_digitRule x0 x1 K u Post) (sz : Nat) : Met l yX6_digitRule (ws_ yX6_digitRule cX6_digitRule 2 (Option.some Jvm.ClassFile.FieldType.int)) (jx_rm 3 63 0 0) (jx_Pc D dA aK aV K u sz [.ref x0, .int x1]) (va_Qi (fun (r : Int32) (w : XS) => Post r w) (jx_B D dA K) (AX K sz)) 0 0 (AX K sz) := by
  refine jx_start hfl [.ref x0, .int x1] [(0, .ref x0), (1, .int x1)] (by decide) (Nat.le_of_ble_eq_true rfl) rfl (fun X hX hY hin => ?_)
  unfold xw6_digitRule at h
  refine jj_aload_n hX dX6_digitRule_0 0 rfl 1 rfl ?_
  refine jj_iload_n hX dX6_digitRule_1 1 rfl 2 rfl ?_
  refine jj_bipush hX dX6_digitRule_2 cb_48 4 rfl ?_
  refine jj_icmp_ne hX dX6_digitRule_4 12 7 (by decide) rfl (fun c4 => ?_) (fun c4 => ?_)
  · have h := h.1 c4
    refine jj_bipush hX dX6_digitRule_12 cb_97 14 rfl ?_
    refine jj_iload_n hX dX6_digitRule_14 1 rfl 15 rfl ?_
    refine jj_iadd hX dX6_digitRule_15 16 rfl ?_
    refine jj_bipush hX dX6_digitRule_16 cb_49 18 rfl ?_
    refine jj_isub hX dX6_digitRule_18 19 rfl ?_
    obtain ⟨k19, h⟩ := h
    refine kxw6_justFor hX hY k19 q959 (Nat.le_of_ble_eq_true rfl) (Nat.le_of_ble_eq_true rfl) (Nat.zero_le _) (Nat.zero_le _) (Nat.le_of_ble_eq_true rfl) dX6_digitRule_19 22 rfl h (fun r19 u19 h => ?_)
    exact jj_reti (post := (fun (r : Int32) (w : XS) => Post r w)) (u := u19) hX dX6_digitRule_22 (Nat.le_refl 0) (Nat.le_refl 0) jx_hB h
  · have h := h.2 c4
    refine jj_bipush hX dX6_digitRule_7 cb_106 9 rfl ?_
    refine jj_goto hX dX6_digitRule_9 19 (by decide) ?_
    obtain ⟨k19, h⟩ := h
    refine kxw6_justFor hX hY k19 q959 (Nat.le_of_ble_eq_true rfl) (Nat.le_of_ble_eq_true rfl) (Nat.zero_le _) (Nat.zero_le _) (Nat.le_of_ble_eq_true rfl) dX6_digitRule_19 22 rfl h (fun r19 u19 h => ?_)
    exact jj_reti (post := (fun (r : Int32) (w : XS) => Post r w)) (u := u19) hX dX6_digitRule_22 (Nat.le_refl 0) (Nat.le_refl 0) jx_hB h
theorem hd_xw6_digitRule : yX6_digitRule.cls ≠ "java/lang/invoke/MethodHandle" ∧ yX6_digitRule.cls ≠ "java/lang/invoke/VarHandle" ∧ (parseMethodDescriptor yX6_digitRule.desc).map (fun d => d.parameters.length) = some 1 := by decide +kernel
theorem kxw6_digitRule {X : JC} {A : Nat → Prop} {Q : State → Prop} {nL k n pc : Nat} {lv : List (Nat × Value)} {st : List Value} {own : String} {cc : ByteArray} {ret : Option FieldType} {F LL mc ms ix : Nat} {D : va_G} {dA aK aV : Nat → Nat} {K : XK} {u : XS} {x0 : Nat} {x1 : Int32} {Post : Int32 → XS → Prop} (hX : JX X own cc nL ret F LL mc ms) (hY : JY X D dA aK aV A) (h1a : K x0 = (1, 6)) (hlk : (Cond.methodLink own ix yX6_digitRule) ∈ lw_all) (hF : 3 + 1 ≤ F) (hL : 8 + (2 + 11) + 63 ≤ LL) (hk : k ≤ mc) (hk2 : n ≤ ms) (hw : (st.map fun v => v.category).sum ≤ 8) (d : decode cc pc = .ok (.invokevirtual ix, 3)) (q : Nat) (hq : pc + 3 = q) (h : xw6_digitRule x0 x1 K u  Post) (kk : ∀ (r : Int32) (u2 : XS), Post r u2 → JJ X A Q nL (XP D dA A K u2) k n q lv (.int r :: st)) : JJ X A Q nL (XP D dA A K u) k n pc lv (.int x1 :: .ref x0 :: st) :=
  jx_callVi (na := 1) (As := [.int x1]) hX hY jf6 h1a (fun sz => mxw6_digitRule (jj_l X) hY.2.2.2.2 D dA aK aV x0 x1 K u  Post h sz) hlk q956 q957 q128 q958 ⟨rfl, hd_xw6_digitRule⟩ rfl rfl hw hF hL hk hk2 d q hq kk
theorem knxw6_digitRule {X : JC} {A : Nat → Prop} {Q : State → Prop} {nL k n pc : Nat} {lv : List (Nat × Value)} {st : List Value} {own : String} {cc : ByteArray} {ret : Option FieldType} {F LL mc ms ix : Nat} {D : va_G} {dA aK aV : Nat → Nat} {K : XK} {u : XS} {x0 : Nat} {x1 : Int32} {host : String} {Post : Int32 → XS → Prop} (hX : JX X own cc nL ret F LL mc ms) (hY : JY X D dA aK aV A) (h1a : K x0 = (1, 6)) (hlk : (Cond.methodLinkNest own ix yX6_digitRule host) ∈ jx_nest) (hF : 3 + 1 ≤ F) (hL : 8 + (2 + 11) + 63 ≤ LL) (hk : k ≤ mc) (hk2 : n ≤ ms) (hw : (st.map fun v => v.category).sum ≤ 8) (d : decode cc pc = .ok (.invokevirtual ix, 3)) (q : Nat) (hq : pc + 3 = q) (h : xw6_digitRule x0 x1 K u  Post) (kk : ∀ (r : Int32) (u2 : XS), Post r u2 → JJ X A Q nL (XP D dA A K u2) k n q lv (.int r :: st)) : JJ X A Q nL (XP D dA A K u) k n pc lv (.int x1 :: .ref x0 :: st) :=
  jx_callNi (na := 1) (As := [.int x1]) hX hY jf6 h1a (fun sz => mxw6_digitRule (jj_l X) hY.2.2.2.2 D dA aK aV x0 x1 K u  Post h sz) hlk q956 q957 q128 q958 hd_xw6_digitRule rfl rfl hw hF hL hk hk2 d q hq kk
def xw6_figure_L36_S (Post : Int32 → XK → XS → Prop) (PX : Nat → XK → XS → Prop) (mc ms : Nat) (x0 : Nat) (R : Int32 → XK → XS → Nat → Nat → Prop) (x2 : Int32) (K : XK) (u : XS) (c s : Nat) : Prop :=
  K x0 = (1, 6) ∧
  ((xi u x0 3) ≤ x2 →
    Post x2 K u) ∧
  (¬ (xi u x0 3) ≤ x2 →
    ∃ b49, (xr u x0 2) = some b49 ∧
    ∃ n49, K b49 = (3, n49) ∧
    vp_in x2 n49 ∧
    xs_isFigure (xi u b49 x2.toNatClampNeg) (fun r50 =>
      (r50 = 0 →
        Post x2 K u) ∧
      (¬ r50 = 0 →
        ∃ b62, (xr u x0 2) = some b62 ∧
        ∃ n62, K b62 = (3, n62) ∧
        vp_in x2 n62 ∧
        xw6_digitRule x0 (xi u b62 x2.toNatClampNeg) K u (fun r63 u63 =>
          (0 ≤ r63 →
            xw6_sets_3 x0 r63 (0 : Int32) K u63 (fun u87 =>
              ∀ v90 : Int32, v90 = x2 + (1 : Int32) →
              R v90 K u87 c s)) ∧
          (¬ 0 ≤ r63 →
            ∃ b75, (xr u63 x0 21) = some b75 ∧
            K b75 = (1, 0) ∧
            ∃ b80, (xr u63 b75 1) = some b80 ∧
            K b80 = (1, 2) ∧
            xw2_at b80 (4 : Int32) x2 K u63 (fun r80 u80 =>
              K r80 = (1, 2) ∧
              PX r80 K u80))))))
def xw6_figure_L36 (Post : Int32 → XK → XS → Prop) (PX : Nat → XK → XS → Prop) (mc ms : Nat) (x0 : Nat) : Nat → Int32 → XK → XS → Nat → Nat → Prop
  | 0 => fun _ _ _ _ _ => False
  | n + 1 => fun x2 K u c s => xw6_figure_L36_S Post PX mc ms x0 (xw6_figure_L36 Post PX mc ms x0 n) x2 K u c s
/-- RaisedPress$Setter.figure(I)I -/
def xw6_figure (x0 : Nat) (x1 : Int32) (K : XK) (u : XS) (mc ms : Nat) (Post : Int32 → XK → XS → Prop) (PX : Nat → XK → XS → Prop) : Prop :=
  K x0 = (1, 6) ∧
  ∃ b4, (xr u x0 0) = some b4 ∧
  K b4 = (1, 5) ∧
  (0 ≤ (xi u b4 3) →
    ∃ b28, (xr u x0 0) = some b28 ∧
    K b28 = (1, 5) ∧
    xw6_sets x0 (xi u b28 3) K u (fun u31 =>
      ∃ n, xw6_figure_L36 Post PX mc ms x0 n x1 K u31 0 0)) ∧
  (¬ 0 ≤ (xi u b4 3) →
    ∃ b14, (xr u x0 21) = some b14 ∧
    K b14 = (1, 0) ∧
    ∃ b19, (xr u b14 1) = some b19 ∧
    K b19 = (1, 2) ∧
    xw2_at b19 (4 : Int32) x1 K u (fun r19 u19 =>
      K r19 = (1, 2) ∧
      PX r19 K u19))
set_option maxHeartbeats 4000000 in
set_option maxRecDepth 100000 in
theorem txw6_figure_L36 {X : JC} {D : va_G} {dA aK aV : Nat → Nat} {sz : Nat} {K0 : XK} {mc ms : Nat} {Post : Int32 → XK → XS → Prop} {PX : Nat → XK → XS → Prop} {x0 : Nat} (hX : JX X yX6_figure.cls cX6_figure 4 (Option.some Jvm.ClassFile.FieldType.int) 4 84 mc ms) (hY : JY X D dA aK aV (AX K0 sz)) (hE : JE X []) : ∀ (n : Nat) (x2 : Int32) (K : XK) (u : XS) (c s : Nat) (hl : XLe K0 K) (hc : c ≤ mc) (hs : s ≤ ms), xw6_figure_L36 Post PX mc ms x0 n x2 K u c s → JJ X (AX K0 sz) (jx_QX X (va_Qi (fun (r : Int32) (w : XK × XS) => Post r w.1 w.2) (jx_BA D dA K0 sz) (AX K0 sz)) (jx_XC 2 PX D dA K0 sz (AX K0 sz)) mc ms (AX K0 sz)) 4 (XP D dA (AX K0 sz) K u) c s 36 [(0, .ref x0), (2, .int x2)] [] := by
  intro n
  induction n with
  | zero =>
    intro x2 K u c s hl hc hs h
    exact h.elim
  | succ n ih =>
    intro x2 K u c s hl hc hs h
    have h : xw6_figure_L36_S Post PX mc ms x0 (xw6_figure_L36 Post PX mc ms x0 n) x2 K u c s := h
    unfold xw6_figure_L36_S at h
    refine jj_iload_n hX dX6_figure_36 1 rfl 37 rfl ?_
    refine jj_aload_n hX dX6_figure_37 0 rfl 38 rfl ?_
    obtain ⟨k38, h⟩ := h
    refine xg6_3 hX hY k38 dX6_figure_38 q340 41 rfl ?_
    refine jj_icmp_ge hX dX6_figure_41 96 44 (by decide) rfl (fun c41 => ?_) (fun c41 => ?_)
    · have h := h.1 c41
      refine jj_iload_n hX dX6_figure_96 1 rfl 97 rfl ?_
      exact jt_ret (jj_reti (post := (fun (r : Int32) (w : XK × XS) => Post r w.1 w.2)) (u := (K, u)) hX dX6_figure_97 hc hs (jx_hBA hl) h)
    · have h := h.2 c41
      refine jj_aload_n hX dX6_figure_44 0 rfl 45 rfl ?_
      refine xg6_2 hX hY k38 dX6_figure_45 q338 48 rfl ?_
      refine jj_iload_n hX dX6_figure_48 1 rfl 49 rfl ?_
      obtain ⟨b49, g49, h⟩ := h
      refine jj_st (st2 := [.int x2, .ref b49]) (by rw [va_rf_some g49]) ?_
      obtain ⟨n49, k49, h⟩ := h
      obtain ⟨hi49, h⟩ := h
      refine jx_bald hX hY.1 k49 _ rfl hi49 dX6_figure_49 50 rfl ?_
      refine knxs_isFigure hX XP.keeps hY.2.1 nq950 (Nat.le_of_ble_eq_true rfl) (Nat.le_of_ble_eq_true rfl) hc hs (Nat.le_of_ble_eq_true rfl) dX6_figure_50 53 rfl h (fun r50 hb50 h => ?_)
      refine jj_if_eq hX dX6_figure_53 96 56 (by decide) rfl (fun c53 => ?_) (fun c53 => ?_)
      · have h := h.1 c53
        refine jj_iload_n hX dX6_figure_96 1 rfl 97 rfl ?_
        exact jt_ret (jj_reti (post := (fun (r : Int32) (w : XK × XS) => Post r w.1 w.2)) (u := (K, u)) hX dX6_figure_97 hc hs (jx_hBA hl) h)
      · have h := h.2 c53
        refine jj_aload_n hX dX6_figure_56 0 rfl 57 rfl ?_
        refine jj_aload_n hX dX6_figure_57 0 rfl 58 rfl ?_
        refine xg6_2 hX hY k38 dX6_figure_58 q338 61 rfl ?_
        refine jj_iload_n hX dX6_figure_61 1 rfl 62 rfl ?_
        obtain ⟨b62, g62, h⟩ := h
        refine jj_st (st2 := [.int x2, .ref b62, .ref x0]) (by rw [va_rf_some g62]) ?_
        obtain ⟨n62, k62, h⟩ := h
        obtain ⟨hi62, h⟩ := h
        refine jx_bald hX hY.1 k62 _ rfl hi62 dX6_figure_62 63 rfl ?_
        refine kxw6_digitRule hX hY k38 q955 (Nat.le_of_ble_eq_true rfl) (Nat.le_of_ble_eq_true rfl) hc hs (Nat.le_of_ble_eq_true rfl) dX6_figure_63 66 rfl h (fun r63 u63 h => ?_)
        refine jj_istore_n (lv2 := [(0, .ref x0), (2, .int x2), (3, .int r63)]) hX dX6_figure_66 (Nat.le_of_ble_eq_true rfl) [1, 2, 0] rfl 67 rfl ?_
        refine jj_iload_n hX dX6_figure_67 2 rfl 68 rfl ?_
        refine jj_if_ge hX dX6_figure_68 84 71 (by decide) rfl (fun c68 => ?_) (fun c68 => ?_)
        · have h := h.1 c68
          refine jj_aload_n hX dX6_figure_84 0 rfl 85 rfl ?_
          refine jj_iload_n hX dX6_figure_85 2 rfl 86 rfl ?_
          refine jj_iconst hX dX6_figure_86 ci_0 87 rfl ?_
          refine kxw6_sets_3 hX hY k38 q946 (Nat.le_of_ble_eq_true rfl) (Nat.le_of_ble_eq_true rfl) hc hs (Nat.le_of_ble_eq_true rfl) dX6_figure_87 90 rfl h (fun u87 h => ?_)
          obtain ⟨v90, e90⟩ : ∃ y : Int32, y = x2 + (1 : Int32) := ⟨_, rfl⟩
          have h := h v90 e90
          refine jj_iinc (v := v90) (lv2 := [(0, .ref x0), (2, .int v90), (3, .int r63)]) hX dX6_figure_90 1 rfl (by rw [e90, ci_1]) (Nat.le_of_ble_eq_true rfl) [1, 0, 2] rfl 93 rfl ?_
          refine jj_goto hX dX6_figure_93 36 (by decide) ?_
          refine jj_sub (lv2 := [(0, .ref x0), (2, .int v90)]) [0, 1] rfl ?_
          exact ih _ _ _ _ _ hl hc hs h
        · have h := h.2 c68
          refine jj_aload_n hX dX6_figure_71 0 rfl 72 rfl ?_
          refine xg6_21 hX hY k38 dX6_figure_72 q361 75 rfl ?_
          obtain ⟨b75, g75, h⟩ := h
          refine jj_st (st2 := [.ref b75]) (by rw [va_rf_some g75]) ?_
          obtain ⟨k75, h⟩ := h
          refine xgn0_1 hX hY k75 dX6_figure_75 nq410 78 rfl ?_
          refine jj_iconst hX dX6_figure_78 ci_4 79 rfl ?_
          refine jj_iload_n hX dX6_figure_79 1 rfl 80 rfl ?_
          obtain ⟨b80, g80, h⟩ := h
          refine jj_st (st2 := [.int x2, .int (4 : Int32), .ref b80]) (by rw [va_rf_some g80]) ?_
          obtain ⟨k80, h⟩ := h
          refine kxw2_at hX hY k80 q945 (Nat.le_of_ble_eq_true rfl) (Nat.le_of_ble_eq_true rfl) hc hs (Nat.le_of_ble_eq_true rfl) dX6_figure_80 83 rfl h (fun r80 u80 h => ?_)
          obtain ⟨k83, h⟩ := h
          refine jj_athrow hX hY jf2 k83 dX6_figure_83 ?_
          exact jt_out (e := 2) hX hE hc hs hl h
set_option maxHeartbeats 4000000 in
set_option maxRecDepth 100000 in
theorem mxw6_figure (l : Launch) (hfl : l.stackTraces = false) (D : va_G) (dA aK aV : Nat → Nat) (x0 : Nat) (x1 : Int32) (K : XK) (u : XS) (mc ms : Nat) (Post : Int32 → XK → XS → Prop) (PX : Nat → XK → XS → Prop) (h : xw6_figure x0 x1 K u mc ms Post PX) (sz : Nat) : vx_Met l yX6_figure (ws_ yX6_figure cX6_figure 4 (Option.some Jvm.ClassFile.FieldType.int)) (jx_rm 4 84 mc ms) (jx_Pc D dA aK aV K u sz [.ref x0, .int x1]) (va_Qi (fun (r : Int32) (w : XK × XS) => Post r w.1 w.2) (jx_BA D dA K sz) (AX K sz)) (jx_XC 2 PX D dA K sz (AX K sz)) mc ms (AX K sz) := by
  refine jx_startT hfl [.ref x0, .int x1] [(0, .ref x0), (1, .int x1)] (by decide) (Nat.le_of_ble_eq_true rfl) rfl (fun X hX hY hE => ?_)
  unfold xw6_figure at h
  refine jj_aload_n hX dX6_figure_0 0 rfl 1 rfl ?_
  obtain ⟨k1, h⟩ := h
  refine xg6_0 hX hY k1 dX6_figure_1 q334 4 rfl ?_
  obtain ⟨b4, g4, h⟩ := h
  refine jj_st (st2 := [.ref b4]) (by rw [va_rf_some g4]) ?_
  obtain ⟨k4, h⟩ := h
  refine xgn5_3 hX hY k4 dX6_figure_4 nq286 7 rfl ?_
  refine jj_if_ge hX dX6_figure_7 23 10 (by decide) rfl (fun c7 => ?_) (fun c7 => ?_)
  · have h := h.1 c7
    refine jj_aload_n hX dX6_figure_23 0 rfl 24 rfl ?_
    refine jj_aload_n hX dX6_figure_24 0 rfl 25 rfl ?_
    refine xg6_0 hX hY k1 dX6_figure_25 q334 28 rfl ?_
    obtain ⟨b28, g28, h⟩ := h
    refine jj_st (st2 := [.ref b28, .ref x0]) (by rw [va_rf_some g28]) ?_
    obtain ⟨k28, h⟩ := h
    refine xgn5_3 hX hY k28 dX6_figure_28 nq286 31 rfl ?_
    refine kxw6_sets hX hY k1 q888 (Nat.le_of_ble_eq_true rfl) (Nat.le_of_ble_eq_true rfl) (Nat.zero_le _) (Nat.zero_le _) (Nat.le_of_ble_eq_true rfl) dX6_figure_31 34 rfl h (fun u31 h => ?_)
    refine jj_iload_n hX dX6_figure_34 1 rfl 35 rfl ?_
    refine jj_istore_n (lv2 := [(0, .ref x0), (2, .int x1)]) hX dX6_figure_35 (Nat.le_of_ble_eq_true rfl) [1, 0] rfl 36 rfl ?_
    obtain ⟨n9, h⟩ := h
    exact txw6_figure_L36 hX hY hE n9 _ _ _ _ _ XLe.rf (Nat.zero_le _) (Nat.zero_le _) h
  · have h := h.2 c7
    refine jj_aload_n hX dX6_figure_10 0 rfl 11 rfl ?_
    refine xg6_21 hX hY k1 dX6_figure_11 q361 14 rfl ?_
    obtain ⟨b14, g14, h⟩ := h
    refine jj_st (st2 := [.ref b14]) (by rw [va_rf_some g14]) ?_
    obtain ⟨k14, h⟩ := h
    refine xgn0_1 hX hY k14 dX6_figure_14 nq410 17 rfl ?_
    refine jj_iconst hX dX6_figure_17 ci_4 18 rfl ?_
    refine jj_iload_n hX dX6_figure_18 1 rfl 19 rfl ?_
    obtain ⟨b19, g19, h⟩ := h
    refine jj_st (st2 := [.int x1, .int (4 : Int32), .ref b19]) (by rw [va_rf_some g19]) ?_
    obtain ⟨k19, h⟩ := h
    refine kxw2_at hX hY k19 q945 (Nat.le_of_ble_eq_true rfl) (Nat.le_of_ble_eq_true rfl) (Nat.zero_le _) (Nat.zero_le _) (Nat.le_of_ble_eq_true rfl) dX6_figure_19 22 rfl h (fun r19 u19 h => ?_)
    obtain ⟨k22, h⟩ := h
    refine jj_athrow hX hY jf2 k22 dX6_figure_22 ?_
    exact jt_out (e := 2) hX hE (Nat.zero_le _) (Nat.zero_le _) XLe.rf h
theorem hd_xw6_figure : yX6_figure.cls ≠ "java/lang/invoke/MethodHandle" ∧ yX6_figure.cls ≠ "java/lang/invoke/VarHandle" ∧ (parseMethodDescriptor yX6_figure.desc).map (fun d => d.parameters.length) = some 1 := by decide +kernel
theorem kxw6_figure {X : JC} {A : Nat → Prop} {Q : State → Prop} {nL k n pc : Nat} {lv : List (Nat × Value)} {st : List Value} {own : String} {cc : ByteArray} {ret : Option FieldType} {F LL mc ms ix mc2 ms2 : Nat} {D : va_G} {dA aK aV : Nat → Nat} {K : XK} {u : XS} {x0 : Nat} {x1 : Int32} {Post : Int32 → XK → XS → Prop} {PX : Nat → XK → XS → Prop} (hX : JX X own cc nL ret F LL mc ms) (hY : JY X D dA aK aV A) (h1a : K x0 = (1, 6)) (hlk : (Cond.methodLink own ix yX6_figure) ∈ lw_all) (hF : 4 + 1 ≤ F) (hL : 8 + (4 + 11) + 84 ≤ LL) (hk : k + mc2 ≤ mc) (hk2 : n + ms2 ≤ ms) (hw : (st.map fun v => v.category).sum ≤ 8) (d : decode cc pc = .ok (.invokevirtual ix, 3)) (q : Nat) (hq : pc + 3 = q) (h : xw6_figure x0 x1 K u mc2 ms2 Post PX) (kx : ∀ (q9 : Nat) (K2 : XK) (u2 : XS), XLe K K2 → PX q9 K2 u2 → JT X A Q nL (XP D dA A K2 u2) (k + mc2) (n + ms2) pc lv (jx_en 2) q9) (kk : ∀ (r : Int32) (K2 : XK) (u2 : XS), XLe K K2 → Post r K2 u2 → JJ X A Q nL (XP D dA A K2 u2) (k + mc2) (n + ms2) q lv (.int r :: st)) : JJ X A Q nL (XP D dA A K u) k n pc lv (.int x1 :: .ref x0 :: st) :=
  jx_callTVi (na := 1) (As := [.int x1]) hX hY jf6 h1a (fun sz => mxw6_figure (jj_l X) hY.2.2.2.2 D dA aK aV x0 x1 K u mc2 ms2 Post PX h sz) hlk q953 qs26 q128 q954 ⟨rfl, hd_xw6_figure⟩ rfl rfl hw hF hL hk hk2 d q hq kx kk
def xw6_all_B192 (G62 : Int32 → XK → XS → Nat → Nat → Prop) (Post : XK → XS → Prop) (PX : Nat → XK → XS → Prop) (mc ms : Nat) (x0 : Nat) (x4 : Int32) (x5 : Int32) (K : XK) (u : XS) (c s : Nat) : Prop :=
  K x0 = (1, 6) ∧
  ∃ b202, (xr u x0 9) = some b202 ∧
  ∃ n202, K b202 = (2, n202) ∧
  vp_in (xi u x0 5) n202 ∧
  ∀ u202 : XS, u202 = xsi u b202 (xi u x0 5).toNatClampNeg x5 →
  ∃ b218, (xr u202 x0 10) = some b218 ∧
  ∃ n218, K b218 = (2, n218) ∧
  vp_in (xi u202 x0 5) n218 ∧
  ∀ u218 : XS, u218 = xsi u202 b218 (xi u202 x0 5).toNatClampNeg ((xi u202 x0 4) - x5) →
  ∀ u226 : XS, u226 = xsi u218 x0 5 ((xi u218 x0 5) + (1 : Int32)) →
  G62 x4 K u226 c s
def xw6_all_L108_S (G62 : Int32 → XK → XS → Nat → Nat → Prop) (Post : XK → XS → Prop) (PX : Nat → XK → XS → Prop) (mc ms : Nat) (x0 : Nat) (x5 : Int32) (R : Int32 → XK → XS → Nat → Nat → Prop) (x4 : Int32) (K : XK) (u : XS) (c s : Nat) : Prop :=
  K x0 = (1, 6) ∧
  ((xi u x0 3) ≤ x4 →
    xw6_all_B192 G62 Post PX mc ms x0 x4 x5 K u c s) ∧
  (¬ (xi u x0 3) ≤ x4 →
    ∃ b123, (xr u x0 2) = some b123 ∧
    ∃ n123, K b123 = (3, n123) ∧
    vp_in x4 n123 ∧
    xs_isBlank (xi u b123 x4.toNatClampNeg) (fun r124 =>
      (¬ r124 = 0 →
        xw6_all_B192 G62 Post PX mc ms x0 x4 x5 K u c s) ∧
      (r124 = 0 →
        ∃ b136, (xr u x0 2) = some b136 ∧
        ∃ n136, K b136 = (3, n136) ∧
        vp_in x4 n136 ∧
        xs_isLetter (xi u b136 x4.toNatClampNeg) (fun r137 =>
          (r137 = 0 →
            ∃ b160, (xr u x0 2) = some b160 ∧
            ∃ n160, K b160 = (3, n160) ∧
            vp_in x4 n160 ∧
            xs_isFigure (xi u b160 x4.toNatClampNeg) (fun r161 =>
              (r161 = 0 →
                ∃ b182, (xr u x0 21) = some b182 ∧
                K b182 = (1, 0) ∧
                ∃ b188, (xr u b182 1) = some b188 ∧
                K b188 = (1, 2) ∧
                xw2_at b188 (1 : Int32) x4 K u (fun r188 u188 =>
                  K r188 = (1, 2) ∧
                  PX r188 K u188)) ∧
              (¬ r161 = 0 →
                ∃ m170 w170, (c + m170) ≤ mc ∧ (s + w170) ≤ ms ∧ xw6_figure x0 x4 K u m170 w170 (fun r170 K170 u170 =>
                  R r170 K170 u170 (c + m170) (s + w170)) (fun q170 K170 u170 =>
                  PX q170 K170 u170)))) ∧
          (¬ r137 = 0 →
            ∃ m146 w146, (c + m146) ≤ mc ∧ (s + w146) ≤ ms ∧ xw6_word x0 x4 K u m146 w146 (fun r146 K146 u146 =>
              R r146 K146 u146 (c + m146) (s + w146)) (fun q146 K146 u146 =>
              PX q146 K146 u146))))))
def xw6_all_L108 (G62 : Int32 → XK → XS → Nat → Nat → Prop) (Post : XK → XS → Prop) (PX : Nat → XK → XS → Prop) (mc ms : Nat) (x0 : Nat) (x5 : Int32) : Nat → Int32 → XK → XS → Nat → Nat → Prop
  | 0 => fun _ _ _ _ _ => False
  | n + 1 => fun x4 K u c s => xw6_all_L108_S G62 Post PX mc ms x0 x5 (xw6_all_L108 G62 Post PX mc ms x0 x5 n) x4 K u c s
def xw6_all_L62_S (Post : XK → XS → Prop) (PX : Nat → XK → XS → Prop) (mc ms : Nat) (x0 : Nat) (R : Int32 → XK → XS → Nat → Nat → Prop) (x4 : Int32) (K : XK) (u : XS) (c s : Nat) : Prop :=
  K x0 = (1, 6) ∧
  ((xi u x0 3) ≤ x4 →
    Post K u) ∧
  (¬ (xi u x0 3) ≤ x4 →
    ∃ b77, (xr u x0 2) = some b77 ∧
    ∃ n77, K b77 = (3, n77) ∧
    vp_in x4 n77 ∧
    xs_isBlank (xi u b77 x4.toNatClampNeg) (fun r78 =>
      (r78 = 0 →
        ((xi u x0 5) ≤ 0 →
          ∀ v106 : Int32, v106 = (xi u x0 4) →
          ∃ n, xw6_all_L108 R Post PX mc ms x0 v106 n x4 K u c s) ∧
        (¬ (xi u x0 5) ≤ 0 →
          xw6_sets x0 (0 : Int32) K u (fun u99 =>
            ∀ v106 : Int32, v106 = (xi u99 x0 4) →
            ∃ n, xw6_all_L108 R Post PX mc ms x0 v106 n x4 K u99 c s))) ∧
      (¬ r78 = 0 →
        ∀ v84 : Int32, v84 = x4 + (1 : Int32) →
        R v84 K u c s)))
def xw6_all_L62 (Post : XK → XS → Prop) (PX : Nat → XK → XS → Prop) (mc ms : Nat) (x0 : Nat) : Nat → Int32 → XK → XS → Nat → Nat → Prop
  | 0 => fun _ _ _ _ _ => False
  | n + 1 => fun x4 K u c s => xw6_all_L62_S Post PX mc ms x0 (xw6_all_L62 Post PX mc ms x0 n) x4 K u c s
def xw6_all_L38_S (Post : XK → XS → Prop) (PX : Nat → XK → XS → Prop) (mc ms : Nat) (x0 : Nat) (R : Int32 → XK → XS → Nat → Nat → Prop) (x4 : Int32) (K : XK) (u : XS) (c s : Nat) : Prop :=
  ((24 : Int32) ≤ x4 →
    ∃ n, xw6_all_L62 Post PX mc ms x0 n (0 : Int32) K u c s) ∧
  (¬ (24 : Int32) ≤ x4 →
    K x0 = (1, 6) ∧
    ∃ b52, (xr u x0 14) = some b52 ∧
    ∃ n52, K b52 = (2, n52) ∧
    vp_in x4 n52 ∧
    ∀ u52 : XS, u52 = xsi u b52 x4.toNatClampNeg (0 : Int32) →
    ∀ v53 : Int32, v53 = x4 + (1 : Int32) →
    R v53 K u52 c s)
def xw6_all_L38 (Post : XK → XS → Prop) (PX : Nat → XK → XS → Prop) (mc ms : Nat) (x0 : Nat) : Nat → Int32 → XK → XS → Nat → Nat → Prop
  | 0 => fun _ _ _ _ _ => False
  | n + 1 => fun x4 K u c s => xw6_all_L38_S Post PX mc ms x0 (xw6_all_L38 Post PX mc ms x0 n) x4 K u c s
/-- RaisedPress$Setter.all([BII)V -/
def xw6_all (x0 : Nat) (x1 : Nat) (x2 : Int32) (x3 : Int32) (K : XK) (u : XS) (mc ms : Nat) (Post : XK → XS → Prop) (PX : Nat → XK → XS → Prop) : Prop :=
  K x0 = (1, 6) ∧
  ∀ u2 : XS, u2 = xsr u x0 2 (some x1) →
  ∀ u7 : XS, u7 = xsi u2 x0 3 x2 →
  ∀ u12 : XS, u12 = xsi u7 x0 1 x3 →
  ∀ u17 : XS, u17 = xsi u12 x0 4 (0 : Int32) →
  ∀ u22 : XS, u22 = xsi u17 x0 5 (0 : Int32) →
  ∀ u27 : XS, u27 = xsi u22 x0 6 (0 : Int32) →
  ∀ u32 : XS, u32 = xsi u27 x0 7 (0 : Int32) →
  ∃ n, xw6_all_L38 Post PX mc ms x0 n (0 : Int32) K u32 0 0
set_option maxHeartbeats 4000000 in
set_option maxRecDepth 100000 in
theorem txw6_all_B192 {X : JC} {D : va_G} {dA aK aV : Nat → Nat} {sz : Nat} {K0 : XK} {mc ms : Nat} {G62 : Int32 → XK → XS → Nat → Nat → Prop} {Post : XK → XS → Prop} {PX : Nat → XK → XS → Prop} {x0 : Nat} {x4 : Int32} {x5 : Int32} {K : XK} {u : XS} {c s : Nat} (hX : JX X yX6_all.cls cX6_all 6 (Option.none : Option Jvm.ClassFile.FieldType) 5 116 mc ms) (hY : JY X D dA aK aV (AX K0 sz)) (hE : JE X []) (hG62 : ∀ (y4 : Int32) (K : XK) (u : XS) (c s : Nat) (hl : XLe K0 K) (hc : c ≤ mc) (hs : s ≤ ms), G62 y4 K u c s → JJ X (AX K0 sz) (jx_QX X (va_Qv (fun w : XK × XS => Post w.1 w.2) (jx_BA D dA K0 sz) (AX K0 sz)) (jx_XC 2 PX D dA K0 sz (AX K0 sz)) mc ms (AX K0 sz)) 6 (XP D dA (AX K0 sz) K u) c s 62 [(0, .ref x0), (4, .int y4)] []) (hl : XLe K0 K) (hc : c ≤ mc) (hs : s ≤ ms) (h : xw6_all_B192 G62 Post PX mc ms x0 x4 x5  K u c s) : JJ X (AX K0 sz) (jx_QX X (va_Qv (fun w : XK × XS => Post w.1 w.2) (jx_BA D dA K0 sz) (AX K0 sz)) (jx_XC 2 PX D dA K0 sz (AX K0 sz)) mc ms (AX K0 sz)) 6 (XP D dA (AX K0 sz) K u) c s 192 [(0, .ref x0), (4, .int x4), (5, .int x5)] [] := by
  unfold xw6_all_B192 at h
  refine jj_aload_n hX dX6_all_192 0 rfl 193 rfl ?_
  obtain ⟨k193, h⟩ := h
  refine xg6_9 hX hY k193 dX6_all_193 q349 196 rfl ?_
  refine jj_aload_n hX dX6_all_196 0 rfl 197 rfl ?_
  refine xg6_5 hX hY k193 dX6_all_197 q344 200 rfl ?_
  refine jj_iload hX dX6_all_200 2 rfl 202 rfl ?_
  obtain ⟨b202, g202, h⟩ := h
  refine jj_st (st2 := [.int x5, .int (xi u x0 5), .ref b202]) (by rw [va_rf_some g202]) ?_
  obtain ⟨n202, k202, h⟩ := h
  obtain ⟨hi202, h⟩ := h
  refine jx_iast hX hY.1 k202 _ rfl hi202 dX6_all_202 203 rfl (fun u202 e202 => ?_)
  have h := h u202 e202
  refine jj_aload_n hX dX6_all_203 0 rfl 204 rfl ?_
  refine xg6_10 hX hY k193 dX6_all_204 q350 207 rfl ?_
  refine jj_aload_n hX dX6_all_207 0 rfl 208 rfl ?_
  refine xg6_5 hX hY k193 dX6_all_208 q344 211 rfl ?_
  refine jj_aload_n hX dX6_all_211 0 rfl 212 rfl ?_
  refine xg6_4 hX hY k193 dX6_all_212 q342 215 rfl ?_
  refine jj_iload hX dX6_all_215 2 rfl 217 rfl ?_
  refine jj_isub hX dX6_all_217 218 rfl ?_
  obtain ⟨b218, g218, h⟩ := h
  refine jj_st (st2 := [.int ((xi u202 x0 4) - x5), .int (xi u202 x0 5), .ref b218]) (by rw [va_rf_some g218]) ?_
  obtain ⟨n218, k218, h⟩ := h
  obtain ⟨hi218, h⟩ := h
  refine jx_iast hX hY.1 k218 _ rfl hi218 dX6_all_218 219 rfl (fun u218 e218 => ?_)
  have h := h u218 e218
  refine jj_aload_n hX dX6_all_219 0 rfl 220 rfl ?_
  refine jj_dup hX dX6_all_220 rfl 221 rfl ?_
  refine xg6_5 hX hY k193 dX6_all_221 q344 224 rfl ?_
  refine jj_iconst hX dX6_all_224 ci_1 225 rfl ?_
  refine jj_iadd hX dX6_all_225 226 rfl ?_
  refine xp6_5 hX hY k193 dX6_all_226 q344 229 rfl (fun u226 e226 => ?_)
  have h := h u226 e226
  refine jj_goto hX dX6_all_229 62 (by decide) ?_
  refine jj_sub (lv2 := [(0, .ref x0), (4, .int x4)]) [0, 1] rfl ?_
  exact hG62 _ _ _ _ _ hl hc hs h
set_option maxHeartbeats 4000000 in
set_option maxRecDepth 100000 in
theorem txw6_all_L108 {X : JC} {D : va_G} {dA aK aV : Nat → Nat} {sz : Nat} {K0 : XK} {mc ms : Nat} {G62 : Int32 → XK → XS → Nat → Nat → Prop} {Post : XK → XS → Prop} {PX : Nat → XK → XS → Prop} {x0 : Nat} {x5 : Int32} (hX : JX X yX6_all.cls cX6_all 6 (Option.none : Option Jvm.ClassFile.FieldType) 5 116 mc ms) (hY : JY X D dA aK aV (AX K0 sz)) (hE : JE X []) (hG62 : ∀ (y4 : Int32) (K : XK) (u : XS) (c s : Nat) (hl : XLe K0 K) (hc : c ≤ mc) (hs : s ≤ ms), G62 y4 K u c s → JJ X (AX K0 sz) (jx_QX X (va_Qv (fun w : XK × XS => Post w.1 w.2) (jx_BA D dA K0 sz) (AX K0 sz)) (jx_XC 2 PX D dA K0 sz (AX K0 sz)) mc ms (AX K0 sz)) 6 (XP D dA (AX K0 sz) K u) c s 62 [(0, .ref x0), (4, .int y4)] []) : ∀ (n : Nat) (x4 : Int32) (K : XK) (u : XS) (c s : Nat) (hl : XLe K0 K) (hc : c ≤ mc) (hs : s ≤ ms), xw6_all_L108 G62 Post PX mc ms x0 x5 n x4 K u c s → JJ X (AX K0 sz) (jx_QX X (va_Qv (fun w : XK × XS => Post w.1 w.2) (jx_BA D dA K0 sz) (AX K0 sz)) (jx_XC 2 PX D dA K0 sz (AX K0 sz)) mc ms (AX K0 sz)) 6 (XP D dA (AX K0 sz) K u) c s 108 [(0, .ref x0), (4, .int x4), (5, .int x5)] [] := by
  intro n
  induction n with
  | zero =>
    intro x4 K u c s hl hc hs h
    exact h.elim
  | succ n ih =>
    intro x4 K u c s hl hc hs h
    have h : xw6_all_L108_S G62 Post PX mc ms x0 x5 (xw6_all_L108 G62 Post PX mc ms x0 x5 n) x4 K u c s := h
    unfold xw6_all_L108_S at h
    refine jj_iload hX dX6_all_108 1 rfl 110 rfl ?_
    refine jj_aload_n hX dX6_all_110 0 rfl 111 rfl ?_
    obtain ⟨k111, h⟩ := h
    refine xg6_3 hX hY k111 dX6_all_111 q340 114 rfl ?_
    refine jj_icmp_ge hX dX6_all_114 192 117 (by decide) rfl (fun c114 => ?_) (fun c114 => ?_)
    · have h := h.1 c114
      exact txw6_all_B192 hX hY hE hG62 hl hc hs h
    · have h := h.2 c114
      refine jj_aload_n hX dX6_all_117 0 rfl 118 rfl ?_
      refine xg6_2 hX hY k111 dX6_all_118 q338 121 rfl ?_
      refine jj_iload hX dX6_all_121 1 rfl 123 rfl ?_
      obtain ⟨b123, g123, h⟩ := h
      refine jj_st (st2 := [.int x4, .ref b123]) (by rw [va_rf_some g123]) ?_
      obtain ⟨n123, k123, h⟩ := h
      obtain ⟨hi123, h⟩ := h
      refine jx_bald hX hY.1 k123 _ rfl hi123 dX6_all_123 124 rfl ?_
      refine knxs_isBlank hX XP.keeps hY.2.1 nq887 (Nat.le_of_ble_eq_true rfl) (Nat.le_of_ble_eq_true rfl) hc hs (Nat.le_of_ble_eq_true rfl) dX6_all_124 127 rfl h (fun r124 hb124 h => ?_)
      refine jj_if_ne hX dX6_all_127 192 130 (by decide) rfl (fun c127 => ?_) (fun c127 => ?_)
      · have h := h.1 c127
        exact txw6_all_B192 hX hY hE hG62 hl hc hs h
      · have h := h.2 c127
        refine jj_aload_n hX dX6_all_130 0 rfl 131 rfl ?_
        refine xg6_2 hX hY k111 dX6_all_131 q338 134 rfl ?_
        refine jj_iload hX dX6_all_134 1 rfl 136 rfl ?_
        obtain ⟨b136, g136, h⟩ := h
        refine jj_st (st2 := [.int x4, .ref b136]) (by rw [va_rf_some g136]) ?_
        obtain ⟨n136, k136, h⟩ := h
        obtain ⟨hi136, h⟩ := h
        refine jx_bald hX hY.1 k136 _ rfl hi136 dX6_all_136 137 rfl ?_
        refine knxs_isLetter hX XP.keeps hY.2.1 nq896 (Nat.le_of_ble_eq_true rfl) (Nat.le_of_ble_eq_true rfl) hc hs (Nat.le_of_ble_eq_true rfl) dX6_all_137 140 rfl h (fun r137 hb137 h => ?_)
        refine jj_if_eq hX dX6_all_140 154 143 (by decide) rfl (fun c140 => ?_) (fun c140 => ?_)
        · have h := h.1 c140
          refine jj_aload_n hX dX6_all_154 0 rfl 155 rfl ?_
          refine xg6_2 hX hY k111 dX6_all_155 q338 158 rfl ?_
          refine jj_iload hX dX6_all_158 1 rfl 160 rfl ?_
          obtain ⟨b160, g160, h⟩ := h
          refine jj_st (st2 := [.int x4, .ref b160]) (by rw [va_rf_some g160]) ?_
          obtain ⟨n160, k160, h⟩ := h
          obtain ⟨hi160, h⟩ := h
          refine jx_bald hX hY.1 k160 _ rfl hi160 dX6_all_160 161 rfl ?_
          refine knxs_isFigure hX XP.keeps hY.2.1 nq950 (Nat.le_of_ble_eq_true rfl) (Nat.le_of_ble_eq_true rfl) hc hs (Nat.le_of_ble_eq_true rfl) dX6_all_161 164 rfl h (fun r161 hb161 h => ?_)
          refine jj_if_eq hX dX6_all_164 178 167 (by decide) rfl (fun c164 => ?_) (fun c164 => ?_)
          · have h := h.1 c164
            refine jj_aload_n hX dX6_all_178 0 rfl 179 rfl ?_
            refine xg6_21 hX hY k111 dX6_all_179 q361 182 rfl ?_
            obtain ⟨b182, g182, h⟩ := h
            refine jj_st (st2 := [.ref b182]) (by rw [va_rf_some g182]) ?_
            obtain ⟨k182, h⟩ := h
            refine xgn0_1 hX hY k182 dX6_all_182 nq410 185 rfl ?_
            refine jj_iconst hX dX6_all_185 ci_1 186 rfl ?_
            refine jj_iload hX dX6_all_186 1 rfl 188 rfl ?_
            obtain ⟨b188, g188, h⟩ := h
            refine jj_st (st2 := [.int x4, .int (1 : Int32), .ref b188]) (by rw [va_rf_some g188]) ?_
            obtain ⟨k188, h⟩ := h
            refine kxw2_at hX hY k188 q945 (Nat.le_of_ble_eq_true rfl) (Nat.le_of_ble_eq_true rfl) hc hs (Nat.le_of_ble_eq_true rfl) dX6_all_188 191 rfl h (fun r188 u188 h => ?_)
            obtain ⟨k191, h⟩ := h
            refine jj_athrow hX hY jf2 k191 dX6_all_191 ?_
            exact jt_out (e := 2) hX hE hc hs hl h
          · have h := h.2 c164
            refine jj_aload_n hX dX6_all_167 0 rfl 168 rfl ?_
            refine jj_iload hX dX6_all_168 1 rfl 170 rfl ?_
            obtain ⟨m170, w170, hc170, hs170, h⟩ := h
            refine kxw6_figure hX hY k111 q951 (Nat.le_of_ble_eq_true rfl) (Nat.le_of_ble_eq_true rfl) hc170 hs170 (Nat.le_of_ble_eq_true rfl) dX6_all_170 173 rfl h (fun q170 K170 u170 hle170 h => jt_cs (k2 := (c + m170)) (n2 := (s + w170)) (by simp) (by simp) ?_) (fun r170 K170 u170 hle170 h => jj_cs (k2 := (c + m170)) (n2 := (s + w170)) (by simp) (by simp) ?_)
            · have k170 := hle170.at k111 (by simp)
              have k170_1 := hle170.at k123 (by simp)
              have k170_2 := hle170.at k136 (by simp)
              have k170_3 := hle170.at k160 (by simp)
              have hl170 := hl.tr hle170
              exact jt_out (e := 2) hX hE hc170 hs170 hl170 h
            · have k170 := hle170.at k111 (by simp)
              have k170_1 := hle170.at k123 (by simp)
              have k170_2 := hle170.at k136 (by simp)
              have k170_3 := hle170.at k160 (by simp)
              have hl170 := hl.tr hle170
              refine jj_istore (lv2 := [(0, .ref x0), (4, .int r170), (5, .int x5)]) hX dX6_all_173 (Nat.le_of_ble_eq_true rfl) [1, 0, 2] rfl 175 rfl ?_
              refine jj_goto hX dX6_all_175 108 (by decide) ?_
              exact ih _ _ _ _ _ hl170 hc170 hs170 h
        · have h := h.2 c140
          refine jj_aload_n hX dX6_all_143 0 rfl 144 rfl ?_
          refine jj_iload hX dX6_all_144 1 rfl 146 rfl ?_
          obtain ⟨m146, w146, hc146, hs146, h⟩ := h
          refine kxw6_word hX hY k111 q903 (Nat.le_of_ble_eq_true rfl) (Nat.le_of_ble_eq_true rfl) hc146 hs146 (Nat.le_of_ble_eq_true rfl) dX6_all_146 149 rfl h (fun q146 K146 u146 hle146 h => jt_cs (k2 := (c + m146)) (n2 := (s + w146)) (by simp) (by simp) ?_) (fun r146 K146 u146 hle146 h => jj_cs (k2 := (c + m146)) (n2 := (s + w146)) (by simp) (by simp) ?_)
          · have k146 := hle146.at k111 (by simp)
            have k146_1 := hle146.at k123 (by simp)
            have k146_2 := hle146.at k136 (by simp)
            have hl146 := hl.tr hle146
            exact jt_out (e := 2) hX hE hc146 hs146 hl146 h
          · have k146 := hle146.at k111 (by simp)
            have k146_1 := hle146.at k123 (by simp)
            have k146_2 := hle146.at k136 (by simp)
            have hl146 := hl.tr hle146
            refine jj_istore (lv2 := [(0, .ref x0), (4, .int r146), (5, .int x5)]) hX dX6_all_149 (Nat.le_of_ble_eq_true rfl) [1, 0, 2] rfl 151 rfl ?_
            refine jj_goto hX dX6_all_151 108 (by decide) ?_
            exact ih _ _ _ _ _ hl146 hc146 hs146 h
set_option maxHeartbeats 4000000 in
set_option maxRecDepth 100000 in
theorem txw6_all_L62 {X : JC} {D : va_G} {dA aK aV : Nat → Nat} {sz : Nat} {K0 : XK} {mc ms : Nat} {Post : XK → XS → Prop} {PX : Nat → XK → XS → Prop} {x0 : Nat} (hX : JX X yX6_all.cls cX6_all 6 (Option.none : Option Jvm.ClassFile.FieldType) 5 116 mc ms) (hY : JY X D dA aK aV (AX K0 sz)) (hE : JE X []) : ∀ (n : Nat) (x4 : Int32) (K : XK) (u : XS) (c s : Nat) (hl : XLe K0 K) (hc : c ≤ mc) (hs : s ≤ ms), xw6_all_L62 Post PX mc ms x0 n x4 K u c s → JJ X (AX K0 sz) (jx_QX X (va_Qv (fun w : XK × XS => Post w.1 w.2) (jx_BA D dA K0 sz) (AX K0 sz)) (jx_XC 2 PX D dA K0 sz (AX K0 sz)) mc ms (AX K0 sz)) 6 (XP D dA (AX K0 sz) K u) c s 62 [(0, .ref x0), (4, .int x4)] [] := by
  intro n
  induction n with
  | zero =>
    intro x4 K u c s hl hc hs h
    exact h.elim
  | succ n ih =>
    intro x4 K u c s hl hc hs h
    have h : xw6_all_L62_S Post PX mc ms x0 (xw6_all_L62 Post PX mc ms x0 n) x4 K u c s := h
    unfold xw6_all_L62_S at h
    refine jj_iload hX dX6_all_62 1 rfl 64 rfl ?_
    refine jj_aload_n hX dX6_all_64 0 rfl 65 rfl ?_
    obtain ⟨k65, h⟩ := h
    refine xg6_3 hX hY k65 dX6_all_65 q340 68 rfl ?_
    refine jj_icmp_ge hX dX6_all_68 232 71 (by decide) rfl (fun c68 => ?_) (fun c68 => ?_)
    · have h := h.1 c68
      exact jt_ret (jj_retv (post := (fun w : XK × XS => Post w.1 w.2)) (u := (K, u)) hX dX6_all_232 hc hs (jx_hBA hl) h)
    · have h := h.2 c68
      refine jj_aload_n hX dX6_all_71 0 rfl 72 rfl ?_
      refine xg6_2 hX hY k65 dX6_all_72 q338 75 rfl ?_
      refine jj_iload hX dX6_all_75 1 rfl 77 rfl ?_
      obtain ⟨b77, g77, h⟩ := h
      refine jj_st (st2 := [.int x4, .ref b77]) (by rw [va_rf_some g77]) ?_
      obtain ⟨n77, k77, h⟩ := h
      obtain ⟨hi77, h⟩ := h
      refine jx_bald hX hY.1 k77 _ rfl hi77 dX6_all_77 78 rfl ?_
      refine knxs_isBlank hX XP.keeps hY.2.1 nq887 (Nat.le_of_ble_eq_true rfl) (Nat.le_of_ble_eq_true rfl) hc hs (Nat.le_of_ble_eq_true rfl) dX6_all_78 81 rfl h (fun r78 hb78 h => ?_)
      refine jj_if_eq hX dX6_all_81 90 84 (by decide) rfl (fun c81 => ?_) (fun c81 => ?_)
      · have h := h.1 c81
        refine jj_aload_n hX dX6_all_90 0 rfl 91 rfl ?_
        refine xg6_5 hX hY k65 dX6_all_91 q344 94 rfl ?_
        refine jj_if_le hX dX6_all_94 102 97 (by decide) rfl (fun c94 => ?_) (fun c94 => ?_)
        · have h := h.1 c94
          refine jj_aload_n hX dX6_all_102 0 rfl 103 rfl ?_
          refine xg6_4 hX hY k65 dX6_all_103 q342 106 rfl ?_
          refine jj_topi (fun v106 e106 => ?_)
          have h := h v106 e106
          refine jj_istore (lv2 := [(0, .ref x0), (4, .int x4), (5, .int v106)]) hX dX6_all_106 (Nat.le_of_ble_eq_true rfl) [1, 2, 0] rfl 108 rfl ?_
          obtain ⟨n9, h⟩ := h
          exact txw6_all_L108 hX hY hE ih n9 _ _ _ _ _ hl hc hs h
        · have h := h.2 c94
          refine jj_aload_n hX dX6_all_97 0 rfl 98 rfl ?_
          refine jj_iconst hX dX6_all_98 ci_0 99 rfl ?_
          refine kxw6_sets hX hY k65 q888 (Nat.le_of_ble_eq_true rfl) (Nat.le_of_ble_eq_true rfl) hc hs (Nat.le_of_ble_eq_true rfl) dX6_all_99 102 rfl h (fun u99 h => ?_)
          refine jj_aload_n hX dX6_all_102 0 rfl 103 rfl ?_
          refine xg6_4 hX hY k65 dX6_all_103 q342 106 rfl ?_
          refine jj_topi (fun v106 e106 => ?_)
          have h := h v106 e106
          refine jj_istore (lv2 := [(0, .ref x0), (4, .int x4), (5, .int v106)]) hX dX6_all_106 (Nat.le_of_ble_eq_true rfl) [1, 2, 0] rfl 108 rfl ?_
          obtain ⟨n9, h⟩ := h
          exact txw6_all_L108 hX hY hE ih n9 _ _ _ _ _ hl hc hs h
      · have h := h.2 c81
        obtain ⟨v84, e84⟩ : ∃ y : Int32, y = x4 + (1 : Int32) := ⟨_, rfl⟩
        have h := h v84 e84
        refine jj_iinc (v := v84) (lv2 := [(0, .ref x0), (4, .int v84)]) hX dX6_all_84 1 rfl (by rw [e84, ci_1]) (Nat.le_of_ble_eq_true rfl) [1, 0] rfl 87 rfl ?_
        refine jj_goto hX dX6_all_87 62 (by decide) ?_
        exact ih _ _ _ _ _ hl hc hs h
set_option maxHeartbeats 4000000 in
set_option maxRecDepth 100000 in
theorem txw6_all_L38 {X : JC} {D : va_G} {dA aK aV : Nat → Nat} {sz : Nat} {K0 : XK} {mc ms : Nat} {Post : XK → XS → Prop} {PX : Nat → XK → XS → Prop} {x0 : Nat} (hX : JX X yX6_all.cls cX6_all 6 (Option.none : Option Jvm.ClassFile.FieldType) 5 116 mc ms) (hY : JY X D dA aK aV (AX K0 sz)) (hE : JE X []) : ∀ (n : Nat) (x4 : Int32) (K : XK) (u : XS) (c s : Nat) (hl : XLe K0 K) (hc : c ≤ mc) (hs : s ≤ ms), xw6_all_L38 Post PX mc ms x0 n x4 K u c s → JJ X (AX K0 sz) (jx_QX X (va_Qv (fun w : XK × XS => Post w.1 w.2) (jx_BA D dA K0 sz) (AX K0 sz)) (jx_XC 2 PX D dA K0 sz (AX K0 sz)) mc ms (AX K0 sz)) 6 (XP D dA (AX K0 sz) K u) c s 38 [(0, .ref x0), (4, .int x4)] [] := by
  intro n
  induction n with
  | zero =>
    intro x4 K u c s hl hc hs h
    exact h.elim
  | succ n ih =>
    intro x4 K u c s hl hc hs h
    have h : xw6_all_L38_S Post PX mc ms x0 (xw6_all_L38 Post PX mc ms x0 n) x4 K u c s := h
    unfold xw6_all_L38_S at h
    refine jj_iload hX dX6_all_38 1 rfl 40 rfl ?_
    refine jj_bipush hX dX6_all_40 cb_24 42 rfl ?_
    refine jj_icmp_ge hX dX6_all_42 59 45 (by decide) rfl (fun c42 => ?_) (fun c42 => ?_)
    · have h := h.1 c42
      refine jj_iconst hX dX6_all_59 ci_0 60 rfl ?_
      refine jj_istore (lv2 := [(0, .ref x0), (4, .int (0 : Int32))]) hX dX6_all_60 (Nat.le_of_ble_eq_true rfl) [1, 0] rfl 62 rfl ?_
      obtain ⟨n9, h⟩ := h
      exact txw6_all_L62 hX hY hE n9 _ _ _ _ _ hl hc hs h
    · have h := h.2 c42
      refine jj_aload_n hX dX6_all_45 0 rfl 46 rfl ?_
      obtain ⟨k46, h⟩ := h
      refine xg6_14 hX hY k46 dX6_all_46 q354 49 rfl ?_
      refine jj_iload hX dX6_all_49 1 rfl 51 rfl ?_
      refine jj_iconst hX dX6_all_51 ci_0 52 rfl ?_
      obtain ⟨b52, g52, h⟩ := h
      refine jj_st (st2 := [.int (0 : Int32), .int x4, .ref b52]) (by rw [va_rf_some g52]) ?_
      obtain ⟨n52, k52, h⟩ := h
      obtain ⟨hi52, h⟩ := h
      refine jx_iast hX hY.1 k52 _ rfl hi52 dX6_all_52 53 rfl (fun u52 e52 => ?_)
      have h := h u52 e52
      obtain ⟨v53, e53⟩ : ∃ y : Int32, y = x4 + (1 : Int32) := ⟨_, rfl⟩
      have h := h v53 e53
      refine jj_iinc (v := v53) (lv2 := [(0, .ref x0), (4, .int v53)]) hX dX6_all_53 1 rfl (by rw [e53, ci_1]) (Nat.le_of_ble_eq_true rfl) [1, 0] rfl 56 rfl ?_
      refine jj_goto hX dX6_all_56 38 (by decide) ?_
      exact ih _ _ _ _ _ hl hc hs h
set_option maxHeartbeats 4000000 in
set_option maxRecDepth 100000 in
theorem mxw6_all (l : Launch) (hfl : l.stackTraces = false) (D : va_G) (dA aK aV : Nat → Nat) (x0 : Nat) (x1 : Nat) (x2 : Int32) (x3 : Int32) (K : XK) (u : XS) (mc ms : Nat) (Post : XK → XS → Prop) (PX : Nat → XK → XS → Prop) (h : xw6_all x0 x1 x2 x3 K u mc ms Post PX) (sz : Nat) : vx_Met l yX6_all (ws_ yX6_all cX6_all 6 (Option.none : Option Jvm.ClassFile.FieldType)) (jx_rm 5 116 mc ms) (jx_Pc D dA aK aV K u sz [.ref x0, .ref x1, .int x2, .int x3]) (va_Qv (fun w : XK × XS => Post w.1 w.2) (jx_BA D dA K sz) (AX K sz)) (jx_XC 2 PX D dA K sz (AX K sz)) mc ms (AX K sz) := by
  refine jx_startT hfl [.ref x0, .ref x1, .int x2, .int x3] [(0, .ref x0), (1, .ref x1), (2, .int x2), (3, .int x3)] (by decide) (Nat.le_of_ble_eq_true rfl) rfl (fun X hX hY hE => ?_)
  unfold xw6_all at h
  refine jj_aload_n hX dX6_all_0 0 rfl 1 rfl ?_
  refine jj_aload_n hX dX6_all_1 1 rfl 2 rfl ?_
  obtain ⟨k2, h⟩ := h
  refine xp6_2 (v := (some x1)) hX hY k2 dX6_all_2 q338 5 rfl (fun u2 e2 => ?_)
  have h := h u2 e2
  refine jj_aload_n hX dX6_all_5 0 rfl 6 rfl ?_
  refine jj_iload_n hX dX6_all_6 2 rfl 7 rfl ?_
  refine xp6_3 hX hY k2 dX6_all_7 q340 10 rfl (fun u7 e7 => ?_)
  have h := h u7 e7
  refine jj_aload_n hX dX6_all_10 0 rfl 11 rfl ?_
  refine jj_iload_n hX dX6_all_11 3 rfl 12 rfl ?_
  refine xp6_1 hX hY k2 dX6_all_12 q336 15 rfl (fun u12 e12 => ?_)
  have h := h u12 e12
  refine jj_aload_n hX dX6_all_15 0 rfl 16 rfl ?_
  refine jj_iconst hX dX6_all_16 ci_0 17 rfl ?_
  refine xp6_4 hX hY k2 dX6_all_17 q342 20 rfl (fun u17 e17 => ?_)
  have h := h u17 e17
  refine jj_aload_n hX dX6_all_20 0 rfl 21 rfl ?_
  refine jj_iconst hX dX6_all_21 ci_0 22 rfl ?_
  refine xp6_5 hX hY k2 dX6_all_22 q344 25 rfl (fun u22 e22 => ?_)
  have h := h u22 e22
  refine jj_aload_n hX dX6_all_25 0 rfl 26 rfl ?_
  refine jj_iconst hX dX6_all_26 ci_0 27 rfl ?_
  refine xp6_6 hX hY k2 dX6_all_27 q345 30 rfl (fun u27 e27 => ?_)
  have h := h u27 e27
  refine jj_aload_n hX dX6_all_30 0 rfl 31 rfl ?_
  refine jj_iconst hX dX6_all_31 ci_0 32 rfl ?_
  refine xp6_7 hX hY k2 dX6_all_32 q346 35 rfl (fun u32 e32 => ?_)
  have h := h u32 e32
  refine jj_iconst hX dX6_all_35 ci_0 36 rfl ?_
  refine jj_istore (lv2 := [(0, .ref x0), (4, .int (0 : Int32))]) hX dX6_all_36 (Nat.le_of_ble_eq_true rfl) [1, 0] rfl 38 rfl ?_
  obtain ⟨n9, h⟩ := h
  exact txw6_all_L38 hX hY hE n9 _ _ _ _ _ XLe.rf (Nat.zero_le _) (Nat.zero_le _) h
theorem hd_xw6_all : yX6_all.cls ≠ "java/lang/invoke/MethodHandle" ∧ yX6_all.cls ≠ "java/lang/invoke/VarHandle" ∧ (parseMethodDescriptor yX6_all.desc).map (fun d => d.parameters.length) = some 3 := by decide +kernel
theorem kxw6_all {X : JC} {A : Nat → Prop} {Q : State → Prop} {nL k n pc : Nat} {lv : List (Nat × Value)} {st : List Value} {own : String} {cc : ByteArray} {ret : Option FieldType} {F LL mc ms ix mc2 ms2 : Nat} {D : va_G} {dA aK aV : Nat → Nat} {K : XK} {u : XS} {x0 : Nat} {x1 : Nat} {x2 : Int32} {x3 : Int32} {Post : XK → XS → Prop} {PX : Nat → XK → XS → Prop} (hX : JX X own cc nL ret F LL mc ms) (hY : JY X D dA aK aV A) (h1a : K x0 = (1, 6)) (hlk : (Cond.methodLink own ix yX6_all) ∈ lw_all) (hF : 5 + 1 ≤ F) (hL : 8 + (6 + 11) + 116 ≤ LL) (hk : k + mc2 ≤ mc) (hk2 : n + ms2 ≤ ms) (hw : (st.map fun v => v.category).sum ≤ 8) (d : decode cc pc = .ok (.invokevirtual ix, 3)) (q : Nat) (hq : pc + 3 = q) (h : xw6_all x0 x1 x2 x3 K u mc2 ms2 Post PX) (kx : ∀ (q9 : Nat) (K2 : XK) (u2 : XS), XLe K K2 → PX q9 K2 u2 → JT X A Q nL (XP D dA A K2 u2) (k + mc2) (n + ms2) pc lv (jx_en 2) q9) (kk : ∀ (K2 : XK) (u2 : XS), XLe K K2 → Post K2 u2 → JJ X A Q nL (XP D dA A K2 u2) (k + mc2) (n + ms2) q lv (st)) : JJ X A Q nL (XP D dA A K u) k n pc lv (.int x3 :: .int x2 :: .ref x1 :: .ref x0 :: st) :=
  jx_callTVv (na := 3) (As := [.ref x1, .int x2, .int x3]) hX hY jf6 h1a (fun sz => mxw6_all (jj_l X) hY.2.2.2.2 D dA aK aV x0 x1 x2 x3 K u mc2 ms2 Post PX h sz) hlk q884 q885 q128 q886 ⟨rfl, hd_xw6_all⟩ rfl rfl hw hF hL hk hk2 d q hq kx kk
/-- RaisedPress$Setter.inLine()I -/
def xw6_inLine (x0 : Nat) (K : XK) (u : XS) (Post : Int32 → XS → Prop) : Prop :=
  K x0 = (1, 6) ∧
  ∃ b12, (xr u x0 16) = some b12 ∧
  ∃ n12, K b12 = (2, n12) ∧
  vp_in (xi u x0 18) n12 ∧
  Post ((xi u x0 17) - (xi u b12 (xi u x0 18).toNatClampNeg)) u
set_option maxHeartbeats 4000000 in
set_option maxRecDepth 100000 in
theorem mxw6_inLine (l : Launch) (hfl : l.stackTraces = false) (D : va_G) (dA aK aV : Nat → Nat) (x0 : Nat) (K : XK) (u : XS) (Post : Int32 → XS → Prop) (h : xw6_inLine x0 K u Post) (sz : Nat) : Met l yX6_inLine (ws_ yX6_inLine cX6_inLine 1 (Option.some Jvm.ClassFile.FieldType.int)) (jx_rm 0 0 0 0) (jx_Pc D dA aK aV K u sz [.ref x0]) (va_Qi (fun (r : Int32) (w : XS) => Post r w) (jx_B D dA K) (AX K sz)) 0 0 (AX K sz) := by
  refine jx_start hfl [.ref x0] [(0, .ref x0)] (by decide) (Nat.le_of_ble_eq_true rfl) rfl (fun X hX hY hin => ?_)
  unfold xw6_inLine at h
  refine jj_aload_n hX dX6_inLine_0 0 rfl 1 rfl ?_
  obtain ⟨k1, h⟩ := h
  refine xg6_17 hX hY k1 dX6_inLine_1 q357 4 rfl ?_
  refine jj_aload_n hX dX6_inLine_4 0 rfl 5 rfl ?_
  refine xg6_16 hX hY k1 dX6_inLine_5 q356 8 rfl ?_
  refine jj_aload_n hX dX6_inLine_8 0 rfl 9 rfl ?_
  refine xg6_18 hX hY k1 dX6_inLine_9 q358 12 rfl ?_
  obtain ⟨b12, g12, h⟩ := h
  refine jj_st (st2 := [.int (xi u x0 18), .ref b12, .int (xi u x0 17)]) (by rw [va_rf_some g12]) ?_
  obtain ⟨n12, k12, h⟩ := h
  obtain ⟨hi12, h⟩ := h
  refine jx_iald hX hY.1 k12 _ rfl hi12 dX6_inLine_12 13 rfl ?_
  refine jj_isub hX dX6_inLine_13 14 rfl ?_
  exact jj_reti (post := (fun (r : Int32) (w : XS) => Post r w)) (u := u) hX dX6_inLine_14 (Nat.le_refl 0) (Nat.le_refl 0) jx_hB h
theorem hd_xw6_inLine : yX6_inLine.cls ≠ "java/lang/invoke/MethodHandle" ∧ yX6_inLine.cls ≠ "java/lang/invoke/VarHandle" ∧ (parseMethodDescriptor yX6_inLine.desc).map (fun d => d.parameters.length) = some 0 := by decide +kernel
theorem kxw6_inLine {X : JC} {A : Nat → Prop} {Q : State → Prop} {nL k n pc : Nat} {lv : List (Nat × Value)} {st : List Value} {own : String} {cc : ByteArray} {ret : Option FieldType} {F LL mc ms ix : Nat} {D : va_G} {dA aK aV : Nat → Nat} {K : XK} {u : XS} {x0 : Nat} {Post : Int32 → XS → Prop} (hX : JX X own cc nL ret F LL mc ms) (hY : JY X D dA aK aV A) (h1a : K x0 = (1, 6)) (hlk : (Cond.methodLink own ix yX6_inLine) ∈ lw_all) (hF : 0 + 1 ≤ F) (hL : 8 + (1 + 11) + 0 ≤ LL) (hk : k ≤ mc) (hk2 : n ≤ ms) (hw : (st.map fun v => v.category).sum ≤ 8) (d : decode cc pc = .ok (.invokevirtual ix, 3)) (q : Nat) (hq : pc + 3 = q) (h : xw6_inLine x0 K u  Post) (kk : ∀ (r : Int32) (u2 : XS), Post r u2 → JJ X A Q nL (XP D dA A K u2) k n q lv (.int r :: st)) : JJ X A Q nL (XP D dA A K u) k n pc lv (.ref x0 :: st) :=
  jx_callVi (na := 0) (As := []) hX hY jf6 h1a (fun sz => mxw6_inLine (jj_l X) hY.2.2.2.2 D dA aK aV x0 K u  Post h sz) hlk q982 qs28 q128 q983 ⟨rfl, hd_xw6_inLine⟩ rfl rfl hw hF hL hk hk2 d q hq kk
theorem knxw6_inLine {X : JC} {A : Nat → Prop} {Q : State → Prop} {nL k n pc : Nat} {lv : List (Nat × Value)} {st : List Value} {own : String} {cc : ByteArray} {ret : Option FieldType} {F LL mc ms ix : Nat} {D : va_G} {dA aK aV : Nat → Nat} {K : XK} {u : XS} {x0 : Nat} {host : String} {Post : Int32 → XS → Prop} (hX : JX X own cc nL ret F LL mc ms) (hY : JY X D dA aK aV A) (h1a : K x0 = (1, 6)) (hlk : (Cond.methodLinkNest own ix yX6_inLine host) ∈ jx_nest) (hF : 0 + 1 ≤ F) (hL : 8 + (1 + 11) + 0 ≤ LL) (hk : k ≤ mc) (hk2 : n ≤ ms) (hw : (st.map fun v => v.category).sum ≤ 8) (d : decode cc pc = .ok (.invokevirtual ix, 3)) (q : Nat) (hq : pc + 3 = q) (h : xw6_inLine x0 K u  Post) (kk : ∀ (r : Int32) (u2 : XS), Post r u2 → JJ X A Q nL (XP D dA A K u2) k n q lv (.int r :: st)) : JJ X A Q nL (XP D dA A K u) k n pc lv (.ref x0 :: st) :=
  jx_callNi (na := 0) (As := []) hX hY jf6 h1a (fun sz => mxw6_inLine (jj_l X) hY.2.2.2.2 D dA aK aV x0 K u  Post h sz) hlk q982 qs28 q128 q983 hd_xw6_inLine rfl rfl hw hF hL hk hk2 d q hq kk
/-- RaisedPress$Setter.ends()V -/
def xw6_ends (x0 : Nat) (K : XK) (u : XS) (Post : XS → Prop) : Prop :=
  K x0 = (1, 6) ∧
  ∀ u7 : XS, u7 = xsi u x0 18 ((xi u x0 18) + (1 : Int32)) →
  ∃ b22, (xr u7 x0 16) = some b22 ∧
  ∃ n22, K b22 = (2, n22) ∧
  vp_in (xi u7 x0 18) n22 ∧
  ∀ u22 : XS, u22 = xsi u7 b22 (xi u7 x0 18).toNatClampNeg (xi u7 x0 17) →
  Post u22
set_option maxHeartbeats 4000000 in
set_option maxRecDepth 100000 in
theorem mxw6_ends (l : Launch) (hfl : l.stackTraces = false) (D : va_G) (dA aK aV : Nat → Nat) (x0 : Nat) (K : XK) (u : XS) (Post : XS → Prop) (h : xw6_ends x0 K u Post) (sz : Nat) : Met l yX6_ends (ws_ yX6_ends cX6_ends 1 (Option.none : Option Jvm.ClassFile.FieldType)) (jx_rm 0 0 0 0) (jx_Pc D dA aK aV K u sz [.ref x0]) (va_Qv (fun w : XS => Post w) (jx_B D dA K) (AX K sz)) 0 0 (AX K sz) := by
  refine jx_start hfl [.ref x0] [(0, .ref x0)] (by decide) (Nat.le_of_ble_eq_true rfl) rfl (fun X hX hY hin => ?_)
  unfold xw6_ends at h
  refine jj_aload_n hX dX6_ends_0 0 rfl 1 rfl ?_
  refine jj_dup hX dX6_ends_1 rfl 2 rfl ?_
  obtain ⟨k2, h⟩ := h
  refine xg6_18 hX hY k2 dX6_ends_2 q358 5 rfl ?_
  refine jj_iconst hX dX6_ends_5 ci_1 6 rfl ?_
  refine jj_iadd hX dX6_ends_6 7 rfl ?_
  refine xp6_18 hX hY k2 dX6_ends_7 q358 10 rfl (fun u7 e7 => ?_)
  have h := h u7 e7
  refine jj_aload_n hX dX6_ends_10 0 rfl 11 rfl ?_
  refine xg6_16 hX hY k2 dX6_ends_11 q356 14 rfl ?_
  refine jj_aload_n hX dX6_ends_14 0 rfl 15 rfl ?_
  refine xg6_18 hX hY k2 dX6_ends_15 q358 18 rfl ?_
  refine jj_aload_n hX dX6_ends_18 0 rfl 19 rfl ?_
  refine xg6_17 hX hY k2 dX6_ends_19 q357 22 rfl ?_
  obtain ⟨b22, g22, h⟩ := h
  refine jj_st (st2 := [.int (xi u7 x0 17), .int (xi u7 x0 18), .ref b22]) (by rw [va_rf_some g22]) ?_
  obtain ⟨n22, k22, h⟩ := h
  obtain ⟨hi22, h⟩ := h
  refine jx_iast hX hY.1 k22 _ rfl hi22 dX6_ends_22 23 rfl (fun u22 e22 => ?_)
  have h := h u22 e22
  exact jj_retv (post := (fun w : XS => Post w)) (u := u22) hX dX6_ends_23 (Nat.le_refl 0) (Nat.le_refl 0) jx_hB h
theorem hd_xw6_ends : yX6_ends.cls ≠ "java/lang/invoke/MethodHandle" ∧ yX6_ends.cls ≠ "java/lang/invoke/VarHandle" ∧ (parseMethodDescriptor yX6_ends.desc).map (fun d => d.parameters.length) = some 0 := by decide +kernel
theorem kxw6_ends {X : JC} {A : Nat → Prop} {Q : State → Prop} {nL k n pc : Nat} {lv : List (Nat × Value)} {st : List Value} {own : String} {cc : ByteArray} {ret : Option FieldType} {F LL mc ms ix : Nat} {D : va_G} {dA aK aV : Nat → Nat} {K : XK} {u : XS} {x0 : Nat} {Post : XS → Prop} (hX : JX X own cc nL ret F LL mc ms) (hY : JY X D dA aK aV A) (h1a : K x0 = (1, 6)) (hlk : (Cond.methodLink own ix yX6_ends) ∈ lw_all) (hF : 0 + 1 ≤ F) (hL : 8 + (1 + 11) + 0 ≤ LL) (hk : k ≤ mc) (hk2 : n ≤ ms) (hw : (st.map fun v => v.category).sum ≤ 8) (d : decode cc pc = .ok (.invokevirtual ix, 3)) (q : Nat) (hq : pc + 3 = q) (h : xw6_ends x0 K u  Post) (kk : ∀ (u2 : XS), Post u2 → JJ X A Q nL (XP D dA A K u2) k n q lv (st)) : JJ X A Q nL (XP D dA A K u) k n pc lv (.ref x0 :: st) :=
  jx_callVv (na := 0) (As := []) hX hY jf6 h1a (fun sz => mxw6_ends (jj_l X) hY.2.2.2.2 D dA aK aV x0 K u  Post h sz) hlk q986 qs29 q128 q987 ⟨rfl, hd_xw6_ends⟩ rfl rfl hw hF hL hk hk2 d q hq kk
theorem knxw6_ends {X : JC} {A : Nat → Prop} {Q : State → Prop} {nL k n pc : Nat} {lv : List (Nat × Value)} {st : List Value} {own : String} {cc : ByteArray} {ret : Option FieldType} {F LL mc ms ix : Nat} {D : va_G} {dA aK aV : Nat → Nat} {K : XK} {u : XS} {x0 : Nat} {host : String} {Post : XS → Prop} (hX : JX X own cc nL ret F LL mc ms) (hY : JY X D dA aK aV A) (h1a : K x0 = (1, 6)) (hlk : (Cond.methodLinkNest own ix yX6_ends host) ∈ jx_nest) (hF : 0 + 1 ≤ F) (hL : 8 + (1 + 11) + 0 ≤ LL) (hk : k ≤ mc) (hk2 : n ≤ ms) (hw : (st.map fun v => v.category).sum ≤ 8) (d : decode cc pc = .ok (.invokevirtual ix, 3)) (q : Nat) (hq : pc + 3 = q) (h : xw6_ends x0 K u  Post) (kk : ∀ (u2 : XS), Post u2 → JJ X A Q nL (XP D dA A K u2) k n q lv (st)) : JJ X A Q nL (XP D dA A K u) k n pc lv (.ref x0 :: st) :=
  jx_callNv (na := 0) (As := []) hX hY jf6 h1a (fun sz => mxw6_ends (jj_l X) hY.2.2.2.2 D dA aK aV x0 K u  Post h sz) hlk q986 qs29 q128 q987 hd_xw6_ends rfl rfl hw hF hL hk hk2 d q hq kk
/-- RaisedPress$Setter.lays(I)V -/
def xw6_lays (x0 : Nat) (x1 : Int32) (K : XK) (u : XS) (Post : XS → Prop) : Prop :=
  K x0 = (1, 6) ∧
  ∃ b9, (xr u x0 15) = some b9 ∧
  ∃ n9, K b9 = (2, n9) ∧
  vp_in (xi u x0 17) n9 ∧
  ∀ u9 : XS, u9 = xsi u b9 (xi u x0 17).toNatClampNeg x1 →
  ∀ u17 : XS, u17 = xsi u9 x0 17 ((xi u9 x0 17) + (1 : Int32)) →
  Post u17
set_option maxHeartbeats 4000000 in
set_option maxRecDepth 100000 in
theorem mxw6_lays (l : Launch) (hfl : l.stackTraces = false) (D : va_G) (dA aK aV : Nat → Nat) (x0 : Nat) (x1 : Int32) (K : XK) (u : XS) (Post : XS → Prop) (h : xw6_lays x0 x1 K u Post) (sz : Nat) : Met l yX6_lays (ws_ yX6_lays cX6_lays 2 (Option.none : Option Jvm.ClassFile.FieldType)) (jx_rm 0 0 0 0) (jx_Pc D dA aK aV K u sz [.ref x0, .int x1]) (va_Qv (fun w : XS => Post w) (jx_B D dA K) (AX K sz)) 0 0 (AX K sz) := by
  refine jx_start hfl [.ref x0, .int x1] [(0, .ref x0), (1, .int x1)] (by decide) (Nat.le_of_ble_eq_true rfl) rfl (fun X hX hY hin => ?_)
  unfold xw6_lays at h
  refine jj_aload_n hX dX6_lays_0 0 rfl 1 rfl ?_
  obtain ⟨k1, h⟩ := h
  refine xg6_15 hX hY k1 dX6_lays_1 q355 4 rfl ?_
  refine jj_aload_n hX dX6_lays_4 0 rfl 5 rfl ?_
  refine xg6_17 hX hY k1 dX6_lays_5 q357 8 rfl ?_
  refine jj_iload_n hX dX6_lays_8 1 rfl 9 rfl ?_
  obtain ⟨b9, g9, h⟩ := h
  refine jj_st (st2 := [.int x1, .int (xi u x0 17), .ref b9]) (by rw [va_rf_some g9]) ?_
  obtain ⟨n9, k9, h⟩ := h
  obtain ⟨hi9, h⟩ := h
  refine jx_iast hX hY.1 k9 _ rfl hi9 dX6_lays_9 10 rfl (fun u9 e9 => ?_)
  have h := h u9 e9
  refine jj_aload_n hX dX6_lays_10 0 rfl 11 rfl ?_
  refine jj_dup hX dX6_lays_11 rfl 12 rfl ?_
  refine xg6_17 hX hY k1 dX6_lays_12 q357 15 rfl ?_
  refine jj_iconst hX dX6_lays_15 ci_1 16 rfl ?_
  refine jj_iadd hX dX6_lays_16 17 rfl ?_
  refine xp6_17 hX hY k1 dX6_lays_17 q357 20 rfl (fun u17 e17 => ?_)
  have h := h u17 e17
  exact jj_retv (post := (fun w : XS => Post w)) (u := u17) hX dX6_lays_20 (Nat.le_refl 0) (Nat.le_refl 0) jx_hB h
theorem hd_xw6_lays : yX6_lays.cls ≠ "java/lang/invoke/MethodHandle" ∧ yX6_lays.cls ≠ "java/lang/invoke/VarHandle" ∧ (parseMethodDescriptor yX6_lays.desc).map (fun d => d.parameters.length) = some 1 := by decide +kernel
theorem kxw6_lays {X : JC} {A : Nat → Prop} {Q : State → Prop} {nL k n pc : Nat} {lv : List (Nat × Value)} {st : List Value} {own : String} {cc : ByteArray} {ret : Option FieldType} {F LL mc ms ix : Nat} {D : va_G} {dA aK aV : Nat → Nat} {K : XK} {u : XS} {x0 : Nat} {x1 : Int32} {Post : XS → Prop} (hX : JX X own cc nL ret F LL mc ms) (hY : JY X D dA aK aV A) (h1a : K x0 = (1, 6)) (hlk : (Cond.methodLink own ix yX6_lays) ∈ lw_all) (hF : 0 + 1 ≤ F) (hL : 8 + (2 + 11) + 0 ≤ LL) (hk : k ≤ mc) (hk2 : n ≤ ms) (hw : (st.map fun v => v.category).sum ≤ 8) (d : decode cc pc = .ok (.invokevirtual ix, 3)) (q : Nat) (hq : pc + 3 = q) (h : xw6_lays x0 x1 K u  Post) (kk : ∀ (u2 : XS), Post u2 → JJ X A Q nL (XP D dA A K u2) k n q lv (st)) : JJ X A Q nL (XP D dA A K u) k n pc lv (.int x1 :: .ref x0 :: st) :=
  jx_callVv (na := 1) (As := [.int x1]) hX hY jf6 h1a (fun sz => mxw6_lays (jj_l X) hY.2.2.2.2 D dA aK aV x0 x1 K u  Post h sz) hlk q990 qs30 q128 q991 ⟨rfl, hd_xw6_lays⟩ rfl rfl hw hF hL hk hk2 d q hq kk
theorem knxw6_lays {X : JC} {A : Nat → Prop} {Q : State → Prop} {nL k n pc : Nat} {lv : List (Nat × Value)} {st : List Value} {own : String} {cc : ByteArray} {ret : Option FieldType} {F LL mc ms ix : Nat} {D : va_G} {dA aK aV : Nat → Nat} {K : XK} {u : XS} {x0 : Nat} {x1 : Int32} {host : String} {Post : XS → Prop} (hX : JX X own cc nL ret F LL mc ms) (hY : JY X D dA aK aV A) (h1a : K x0 = (1, 6)) (hlk : (Cond.methodLinkNest own ix yX6_lays host) ∈ jx_nest) (hF : 0 + 1 ≤ F) (hL : 8 + (2 + 11) + 0 ≤ LL) (hk : k ≤ mc) (hk2 : n ≤ ms) (hw : (st.map fun v => v.category).sum ≤ 8) (d : decode cc pc = .ok (.invokevirtual ix, 3)) (q : Nat) (hq : pc + 3 = q) (h : xw6_lays x0 x1 K u  Post) (kk : ∀ (u2 : XS), Post u2 → JJ X A Q nL (XP D dA A K u2) k n q lv (st)) : JJ X A Q nL (XP D dA A K u) k n pc lv (.int x1 :: .ref x0 :: st) :=
  jx_callNv (na := 1) (As := [.int x1]) hX hY jf6 h1a (fun sz => mxw6_lays (jj_l X) hY.2.2.2.2 D dA aK aV x0 x1 K u  Post h sz) hlk q990 qs30 q128 q991 hd_xw6_lays rfl rfl hw hF hL hk hk2 d q hq kk
def xw6_piece_L190_S (Post : XS → Prop) (K : XK) (x0 : Nat) (x1 : Int32) (x2 : Int32) (x3 : Int32) (R : Int32 → XS → Prop) (x4 : Int32) (u : XS) : Prop :=
  (x3 ≤ x4 →
    K x0 = (1, 6) ∧
    ∃ b224, (xr u x0 12) = some b224 ∧
    ∃ n224, K b224 = (2, n224) ∧
    vp_in x1 n224 ∧
    ∀ u224 : XS, u224 = xsi u b224 x1.toNatClampNeg (xi u x0 18) →
    Post u224) ∧
  (¬ x3 ≤ x4 →
    K x0 = (1, 6) ∧
    ∃ b205, (xr u x0 8) = some b205 ∧
    ∃ n205, K b205 = (2, n205) ∧
    vp_in (x2 + x4) n205 ∧
    xw6_lays x0 (xi u b205 (x2 + x4).toNatClampNeg) K u (fun u206 =>
      ∀ v209 : Int32, v209 = x4 + (1 : Int32) →
      R v209 u206))
def xw6_piece_L190 (Post : XS → Prop) (K : XK) (x0 : Nat) (x1 : Int32) (x2 : Int32) (x3 : Int32) : Nat → Int32 → XS → Prop
  | 0 => fun _ _ => False
  | n + 1 => fun x4 u => xw6_piece_L190_S Post K x0 x1 x2 x3 (xw6_piece_L190 Post K x0 x1 x2 x3 n) x4 u
def xw6_piece_B170 (G68 : Int32 → Int32 → XS → Prop) (Post : XS → Prop) (K : XK) (x0 : Nat) (x1 : Int32) (x2 : Int32) (x3 : Int32) (x4 : Int32) (u : XS) : Prop :=
  ∀ v174 : Int32, v174 = (x2 + x4) →
  ∀ v179 : Int32, v179 = (x3 - x4) →
  K x0 = (1, 6) ∧
  xw6_ends x0 K u (fun u181 =>
    G68 v174 v179 u181)
def xw6_piece_L113_S (G68 : Int32 → Int32 → XS → Prop) (Post : XS → Prop) (K : XK) (x0 : Nat) (x1 : Int32) (x2 : Int32) (x3 : Int32) (x4 : Int32) (R : Int32 → XS → Prop) (x5 : Int32) (u : XS) : Prop :=
  (x4 ≤ x5 →
    K x0 = (1, 6) ∧
    ∃ b143, (xr u x0 0) = some b143 ∧
    K b143 = (1, 5) ∧
    ((xi u b143 4) < 0 →
      xw6_piece_B170 G68 Post K x0 x1 x2 x3 x4 u) ∧
    (¬ (xi u b143 4) < 0 →
      ∃ b154, (xr u x0 0) = some b154 ∧
      K b154 = (1, 5) ∧
      xw6_lays x0 (xi u b154 4) K u (fun u157 =>
        ∀ u167 : XS, u167 = xsi u157 x0 19 ((xi u157 x0 19) + (1 : Int32)) →
        xw6_piece_B170 G68 Post K x0 x1 x2 x3 x4 u167))) ∧
  (¬ x4 ≤ x5 →
    K x0 = (1, 6) ∧
    ∃ b129, (xr u x0 8) = some b129 ∧
    ∃ n129, K b129 = (2, n129) ∧
    vp_in (x2 + x5) n129 ∧
    xw6_lays x0 (xi u b129 (x2 + x5).toNatClampNeg) K u (fun u130 =>
      ∀ v133 : Int32, v133 = x5 + (1 : Int32) →
      R v133 u130))
def xw6_piece_L113 (G68 : Int32 → Int32 → XS → Prop) (Post : XS → Prop) (K : XK) (x0 : Nat) (x1 : Int32) (x2 : Int32) (x3 : Int32) (x4 : Int32) : Nat → Int32 → XS → Prop
  | 0 => fun _ _ => False
  | n + 1 => fun x5 u => xw6_piece_L113_S G68 Post K x0 x1 x2 x3 x4 (xw6_piece_L113 G68 Post K x0 x1 x2 x3 x4 n) x5 u
def xw6_piece_L68_S (Post : XS → Prop) (K : XK) (x0 : Nat) (x1 : Int32) (R : Int32 → Int32 → XS → Prop) (x2 : Int32) (x3 : Int32) (u : XS) : Prop :=
  K x0 = (1, 6) ∧
  ∃ b73, (xr u x0 0) = some b73 ∧
  K b73 = (1, 5) ∧
  (x3 ≤ (xi u b73 5) →
    ∃ n, xw6_piece_L190 Post K x0 x1 x2 x3 n (0 : Int32) u) ∧
  (¬ x3 ≤ (xi u b73 5) →
    ∃ b83, (xr u x0 0) = some b83 ∧
    K b83 = (1, 5) ∧
    (0 ≤ (xi u b83 4) →
      ∃ b103, (xr u x0 0) = some b103 ∧
      K b103 = (1, 5) ∧
      ∀ v108 : Int32, v108 = ((xi u b103 5) - (1 : Int32)) →
      ∃ n, xw6_piece_L113 R Post K x0 x1 x2 x3 v108 n (0 : Int32) u) ∧
    (¬ 0 ≤ (xi u b83 4) →
      ∃ b93, (xr u x0 0) = some b93 ∧
      K b93 = (1, 5) ∧
      ∀ v108 : Int32, v108 = (xi u b93 5) →
      ∃ n, xw6_piece_L113 R Post K x0 x1 x2 x3 v108 n (0 : Int32) u))
def xw6_piece_L68 (Post : XS → Prop) (K : XK) (x0 : Nat) (x1 : Int32) : Nat → Int32 → Int32 → XS → Prop
  | 0 => fun _ _ _ => False
  | n + 1 => fun x2 x3 u => xw6_piece_L68_S Post K x0 x1 (xw6_piece_L68 Post K x0 x1 n) x2 x3 u
def xw6_piece_B58 (Post : XS → Prop) (K : XK) (x0 : Nat) (x1 : Int32) (x2 : Int32) (x3 : Int32) (u : XS) : Prop :=
  K x0 = (1, 6) ∧
  ∃ b67, (xr u x0 11) = some b67 ∧
  ∃ n67, K b67 = (2, n67) ∧
  vp_in x1 n67 ∧
  ∀ u67 : XS, u67 = xsi u b67 x1.toNatClampNeg (xi u x0 18) →
  ∃ n, xw6_piece_L68 Post K x0 x1 n x2 x3 u67
/-- RaisedPress$Setter.piece(I)V -/
def xw6_piece (x0 : Nat) (x1 : Int32) (K : XK) (u : XS) (Post : XS → Prop) : Prop :=
  K x0 = (1, 6) ∧
  ∃ b5, (xr u x0 9) = some b5 ∧
  ∃ n5, K b5 = (2, n5) ∧
  vp_in x1 n5 ∧
  ∀ v6 : Int32, v6 = (xi u b5 x1.toNatClampNeg) →
  ∃ b12, (xr u x0 10) = some b12 ∧
  ∃ n12, K b12 = (2, n12) ∧
  vp_in x1 n12 ∧
  ∀ v13 : Int32, v13 = (xi u b12 x1.toNatClampNeg) →
  xw6_inLine x0 K u (fun r15 u15 =>
    (r15 ≤ 0 →
      xw6_inLine x0 K u15 (fun r47 u47 =>
        (r47 ≤ 0 →
          xw6_piece_B58 Post K x0 x1 v6 v13 u47) ∧
        (¬ r47 ≤ 0 →
          xw6_lays x0 (0 : Int32) K u47 (fun u55 =>
            xw6_piece_B58 Post K x0 x1 v6 v13 u55)))) ∧
    (¬ r15 ≤ 0 →
      xw6_inLine x0 K u15 (fun r22 u22 =>
        ∃ b33, (xr u22 x0 0) = some b33 ∧
        K b33 = (1, 5) ∧
        (((r22 + (1 : Int32)) + v13) ≤ (xi u22 b33 5) →
          xw6_inLine x0 K u22 (fun r47 u47 =>
            (r47 ≤ 0 →
              xw6_piece_B58 Post K x0 x1 v6 v13 u47) ∧
            (¬ r47 ≤ 0 →
              xw6_lays x0 (0 : Int32) K u47 (fun u55 =>
                xw6_piece_B58 Post K x0 x1 v6 v13 u55)))) ∧
        (¬ ((r22 + (1 : Int32)) + v13) ≤ (xi u22 b33 5) →
          xw6_ends x0 K u22 (fun u40 =>
            xw6_piece_B58 Post K x0 x1 v6 v13 u40)))))
set_option maxHeartbeats 4000000 in
set_option maxRecDepth 100000 in
theorem txw6_piece_L190 {X : JC} {D : va_G} {dA aK aV : Nat → Nat} {sz : Nat} {K : XK} {Post : XS → Prop} {x0 : Nat} {x1 : Int32} {x2 : Int32} {x3 : Int32} (hX : JX X yX6_piece.cls cX6_piece 6 (Option.none : Option Jvm.ClassFile.FieldType) 1 21 0 0) (hY : JY X D dA aK aV (AX K sz)) : ∀ (n : Nat) (x4 : Int32) (u : XS), xw6_piece_L190 Post K x0 x1 x2 x3 n x4 u → JJ X (AX K sz) (jj_Q X (va_Qv (fun w : XS => Post w) (jx_B D dA K) (AX K sz)) 0 0 (AX K sz)) 6 (XP D dA (AX K sz) K u) 0 0 190 [(0, .ref x0), (1, .int x1), (2, .int x2), (3, .int x3), (4, .int x4)] [] := by
  intro n
  induction n with
  | zero =>
    intro x4 u h
    exact h.elim
  | succ n ih =>
    intro x4 u h
    have h : xw6_piece_L190_S Post K x0 x1 x2 x3 (xw6_piece_L190 Post K x0 x1 x2 x3 n) x4 u := h
    unfold xw6_piece_L190_S at h
    refine jj_iload hX dX6_piece_190 4 rfl 192 rfl ?_
    refine jj_iload_n hX dX6_piece_192 3 rfl 193 rfl ?_
    refine jj_icmp_ge hX dX6_piece_193 215 196 (by decide) rfl (fun c193 => ?_) (fun c193 => ?_)
    · have h := h.1 c193
      refine jj_aload_n hX dX6_piece_215 0 rfl 216 rfl ?_
      obtain ⟨k216, h⟩ := h
      refine xg6_12 hX hY k216 dX6_piece_216 q352 219 rfl ?_
      refine jj_iload_n hX dX6_piece_219 1 rfl 220 rfl ?_
      refine jj_aload_n hX dX6_piece_220 0 rfl 221 rfl ?_
      refine xg6_18 hX hY k216 dX6_piece_221 q358 224 rfl ?_
      obtain ⟨b224, g224, h⟩ := h
      refine jj_st (st2 := [.int (xi u x0 18), .int x1, .ref b224]) (by rw [va_rf_some g224]) ?_
      obtain ⟨n224, k224, h⟩ := h
      obtain ⟨hi224, h⟩ := h
      refine jx_iast hX hY.1 k224 _ rfl hi224 dX6_piece_224 225 rfl (fun u224 e224 => ?_)
      have h := h u224 e224
      exact jj_retv (post := (fun w : XS => Post w)) (u := u224) hX dX6_piece_225 (Nat.le_refl 0) (Nat.le_refl 0) jx_hB h
    · have h := h.2 c193
      refine jj_aload_n hX dX6_piece_196 0 rfl 197 rfl ?_
      refine jj_aload_n hX dX6_piece_197 0 rfl 198 rfl ?_
      obtain ⟨k198, h⟩ := h
      refine xg6_8 hX hY k198 dX6_piece_198 q347 201 rfl ?_
      refine jj_iload_n hX dX6_piece_201 2 rfl 202 rfl ?_
      refine jj_iload hX dX6_piece_202 4 rfl 204 rfl ?_
      refine jj_iadd hX dX6_piece_204 205 rfl ?_
      obtain ⟨b205, g205, h⟩ := h
      refine jj_st (st2 := [.int (x2 + x4), .ref b205, .ref x0]) (by rw [va_rf_some g205]) ?_
      obtain ⟨n205, k205, h⟩ := h
      obtain ⟨hi205, h⟩ := h
      refine jx_iald hX hY.1 k205 _ rfl hi205 dX6_piece_205 206 rfl ?_
      refine kxw6_lays hX hY k198 q988 (Nat.le_of_ble_eq_true rfl) (Nat.le_of_ble_eq_true rfl) (Nat.zero_le _) (Nat.zero_le _) (Nat.le_of_ble_eq_true rfl) dX6_piece_206 209 rfl h (fun u206 h => ?_)
      obtain ⟨v209, e209⟩ : ∃ y : Int32, y = x4 + (1 : Int32) := ⟨_, rfl⟩
      have h := h v209 e209
      refine jj_iinc (v := v209) (lv2 := [(0, .ref x0), (1, .int x1), (2, .int x2), (3, .int x3), (4, .int v209)]) hX dX6_piece_209 4 rfl (by rw [e209, ci_1]) (Nat.le_of_ble_eq_true rfl) [1, 2, 3, 4, 0] rfl 212 rfl ?_
      refine jj_goto hX dX6_piece_212 190 (by decide) ?_
      exact ih _ _ h
set_option maxHeartbeats 4000000 in
set_option maxRecDepth 100000 in
theorem txw6_piece_B170 {X : JC} {D : va_G} {dA aK aV : Nat → Nat} {sz : Nat} {K : XK} {G68 : Int32 → Int32 → XS → Prop} {Post : XS → Prop} {x0 : Nat} {x1 : Int32} {x2 : Int32} {x3 : Int32} {x4 : Int32} {u : XS} (hX : JX X yX6_piece.cls cX6_piece 6 (Option.none : Option Jvm.ClassFile.FieldType) 1 21 0 0) (hY : JY X D dA aK aV (AX K sz)) (hG68 : ∀ (y2 : Int32) (y3 : Int32) (u : XS), G68 y2 y3 u → JJ X (AX K sz) (jj_Q X (va_Qv (fun w : XS => Post w) (jx_B D dA K) (AX K sz)) 0 0 (AX K sz)) 6 (XP D dA (AX K sz) K u) 0 0 68 [(0, .ref x0), (1, .int x1), (2, .int y2), (3, .int y3)] []) (h : xw6_piece_B170 G68 Post K x0 x1 x2 x3 x4  u) : JJ X (AX K sz) (jj_Q X (va_Qv (fun w : XS => Post w) (jx_B D dA K) (AX K sz)) 0 0 (AX K sz)) 6 (XP D dA (AX K sz) K u) 0 0 170 [(0, .ref x0), (1, .int x1), (2, .int x2), (3, .int x3), (4, .int x4)] [] := by
  unfold xw6_piece_B170 at h
  refine jj_iload_n hX dX6_piece_170 2 rfl 171 rfl ?_
  refine jj_iload hX dX6_piece_171 4 rfl 173 rfl ?_
  refine jj_iadd hX dX6_piece_173 174 rfl ?_
  refine jj_topi (fun v174 e174 => ?_)
  have h := h v174 e174
  refine jj_istore_n (lv2 := [(0, .ref x0), (1, .int x1), (2, .int v174), (3, .int x3), (4, .int x4)]) hX dX6_piece_174 (Nat.le_of_ble_eq_true rfl) [1, 2, 0, 3, 4] rfl 175 rfl ?_
  refine jj_iload_n hX dX6_piece_175 3 rfl 176 rfl ?_
  refine jj_iload hX dX6_piece_176 4 rfl 178 rfl ?_
  refine jj_isub hX dX6_piece_178 179 rfl ?_
  refine jj_topi (fun v179 e179 => ?_)
  have h := h v179 e179
  refine jj_istore_n (lv2 := [(0, .ref x0), (1, .int x1), (2, .int v174), (3, .int v179)]) hX dX6_piece_179 (Nat.le_of_ble_eq_true rfl) [1, 2, 3, 0] rfl 180 rfl ?_
  refine jj_aload_n hX dX6_piece_180 0 rfl 181 rfl ?_
  obtain ⟨k181, h⟩ := h
  refine kxw6_ends hX hY k181 q984 (Nat.le_of_ble_eq_true rfl) (Nat.le_of_ble_eq_true rfl) (Nat.zero_le _) (Nat.zero_le _) (Nat.le_of_ble_eq_true rfl) dX6_piece_181 184 rfl h (fun u181 h => ?_)
  refine jj_goto hX dX6_piece_184 68 (by decide) ?_
  exact hG68 _ _ _ h
set_option maxHeartbeats 4000000 in
set_option maxRecDepth 100000 in
theorem txw6_piece_L113 {X : JC} {D : va_G} {dA aK aV : Nat → Nat} {sz : Nat} {K : XK} {G68 : Int32 → Int32 → XS → Prop} {Post : XS → Prop} {x0 : Nat} {x1 : Int32} {x2 : Int32} {x3 : Int32} {x4 : Int32} (hX : JX X yX6_piece.cls cX6_piece 6 (Option.none : Option Jvm.ClassFile.FieldType) 1 21 0 0) (hY : JY X D dA aK aV (AX K sz)) (hG68 : ∀ (y2 : Int32) (y3 : Int32) (u : XS), G68 y2 y3 u → JJ X (AX K sz) (jj_Q X (va_Qv (fun w : XS => Post w) (jx_B D dA K) (AX K sz)) 0 0 (AX K sz)) 6 (XP D dA (AX K sz) K u) 0 0 68 [(0, .ref x0), (1, .int x1), (2, .int y2), (3, .int y3)] []) : ∀ (n : Nat) (x5 : Int32) (u : XS), xw6_piece_L113 G68 Post K x0 x1 x2 x3 x4 n x5 u → JJ X (AX K sz) (jj_Q X (va_Qv (fun w : XS => Post w) (jx_B D dA K) (AX K sz)) 0 0 (AX K sz)) 6 (XP D dA (AX K sz) K u) 0 0 113 [(0, .ref x0), (1, .int x1), (2, .int x2), (3, .int x3), (4, .int x4), (5, .int x5)] [] := by
  intro n
  induction n with
  | zero =>
    intro x5 u h
    exact h.elim
  | succ n ih =>
    intro x5 u h
    have h : xw6_piece_L113_S G68 Post K x0 x1 x2 x3 x4 (xw6_piece_L113 G68 Post K x0 x1 x2 x3 x4 n) x5 u := h
    unfold xw6_piece_L113_S at h
    refine jj_iload hX dX6_piece_113 5 rfl 115 rfl ?_
    refine jj_iload hX dX6_piece_115 4 rfl 117 rfl ?_
    refine jj_icmp_ge hX dX6_piece_117 139 120 (by decide) rfl (fun c117 => ?_) (fun c117 => ?_)
    · have h := h.1 c117
      refine jj_aload_n hX dX6_piece_139 0 rfl 140 rfl ?_
      obtain ⟨k140, h⟩ := h
      refine xg6_0 hX hY k140 dX6_piece_140 q334 143 rfl ?_
      obtain ⟨b143, g143, h⟩ := h
      refine jj_st (st2 := [.ref b143]) (by rw [va_rf_some g143]) ?_
      obtain ⟨k143, h⟩ := h
      refine xgn5_4 hX hY k143 dX6_piece_143 nq290 146 rfl ?_
      refine jj_if_lt hX dX6_piece_146 170 149 (by decide) rfl (fun c146 => ?_) (fun c146 => ?_)
      · have h := h.1 c146
        refine jj_sub (lv2 := [(0, .ref x0), (1, .int x1), (2, .int x2), (3, .int x3), (4, .int x4)]) [0, 1, 2, 3, 4] rfl ?_
        exact txw6_piece_B170 hX hY hG68 h
      · have h := h.2 c146
        refine jj_aload_n hX dX6_piece_149 0 rfl 150 rfl ?_
        refine jj_aload_n hX dX6_piece_150 0 rfl 151 rfl ?_
        refine xg6_0 hX hY k140 dX6_piece_151 q334 154 rfl ?_
        obtain ⟨b154, g154, h⟩ := h
        refine jj_st (st2 := [.ref b154, .ref x0]) (by rw [va_rf_some g154]) ?_
        obtain ⟨k154, h⟩ := h
        refine xgn5_4 hX hY k154 dX6_piece_154 nq290 157 rfl ?_
        refine kxw6_lays hX hY k140 q988 (Nat.le_of_ble_eq_true rfl) (Nat.le_of_ble_eq_true rfl) (Nat.zero_le _) (Nat.zero_le _) (Nat.le_of_ble_eq_true rfl) dX6_piece_157 160 rfl h (fun u157 h => ?_)
        refine jj_aload_n hX dX6_piece_160 0 rfl 161 rfl ?_
        refine jj_dup hX dX6_piece_161 rfl 162 rfl ?_
        refine xg6_19 hX hY k140 dX6_piece_162 q359 165 rfl ?_
        refine jj_iconst hX dX6_piece_165 ci_1 166 rfl ?_
        refine jj_iadd hX dX6_piece_166 167 rfl ?_
        refine xp6_19 hX hY k140 dX6_piece_167 q359 170 rfl (fun u167 e167 => ?_)
        have h := h u167 e167
        refine jj_sub (lv2 := [(0, .ref x0), (1, .int x1), (2, .int x2), (3, .int x3), (4, .int x4)]) [0, 1, 2, 3, 4] rfl ?_
        exact txw6_piece_B170 hX hY hG68 h
    · have h := h.2 c117
      refine jj_aload_n hX dX6_piece_120 0 rfl 121 rfl ?_
      refine jj_aload_n hX dX6_piece_121 0 rfl 122 rfl ?_
      obtain ⟨k122, h⟩ := h
      refine xg6_8 hX hY k122 dX6_piece_122 q347 125 rfl ?_
      refine jj_iload_n hX dX6_piece_125 2 rfl 126 rfl ?_
      refine jj_iload hX dX6_piece_126 5 rfl 128 rfl ?_
      refine jj_iadd hX dX6_piece_128 129 rfl ?_
      obtain ⟨b129, g129, h⟩ := h
      refine jj_st (st2 := [.int (x2 + x5), .ref b129, .ref x0]) (by rw [va_rf_some g129]) ?_
      obtain ⟨n129, k129, h⟩ := h
      obtain ⟨hi129, h⟩ := h
      refine jx_iald hX hY.1 k129 _ rfl hi129 dX6_piece_129 130 rfl ?_
      refine kxw6_lays hX hY k122 q988 (Nat.le_of_ble_eq_true rfl) (Nat.le_of_ble_eq_true rfl) (Nat.zero_le _) (Nat.zero_le _) (Nat.le_of_ble_eq_true rfl) dX6_piece_130 133 rfl h (fun u130 h => ?_)
      obtain ⟨v133, e133⟩ : ∃ y : Int32, y = x5 + (1 : Int32) := ⟨_, rfl⟩
      have h := h v133 e133
      refine jj_iinc (v := v133) (lv2 := [(0, .ref x0), (1, .int x1), (2, .int x2), (3, .int x3), (4, .int x4), (5, .int v133)]) hX dX6_piece_133 5 rfl (by rw [e133, ci_1]) (Nat.le_of_ble_eq_true rfl) [1, 2, 3, 4, 5, 0] rfl 136 rfl ?_
      refine jj_goto hX dX6_piece_136 113 (by decide) ?_
      exact ih _ _ h
set_option maxHeartbeats 4000000 in
set_option maxRecDepth 100000 in
theorem txw6_piece_L68 {X : JC} {D : va_G} {dA aK aV : Nat → Nat} {sz : Nat} {K : XK} {Post : XS → Prop} {x0 : Nat} {x1 : Int32} (hX : JX X yX6_piece.cls cX6_piece 6 (Option.none : Option Jvm.ClassFile.FieldType) 1 21 0 0) (hY : JY X D dA aK aV (AX K sz)) : ∀ (n : Nat) (x2 : Int32) (x3 : Int32) (u : XS), xw6_piece_L68 Post K x0 x1 n x2 x3 u → JJ X (AX K sz) (jj_Q X (va_Qv (fun w : XS => Post w) (jx_B D dA K) (AX K sz)) 0 0 (AX K sz)) 6 (XP D dA (AX K sz) K u) 0 0 68 [(0, .ref x0), (1, .int x1), (2, .int x2), (3, .int x3)] [] := by
  intro n
  induction n with
  | zero =>
    intro x2 x3 u h
    exact h.elim
  | succ n ih =>
    intro x2 x3 u h
    have h : xw6_piece_L68_S Post K x0 x1 (xw6_piece_L68 Post K x0 x1 n) x2 x3 u := h
    unfold xw6_piece_L68_S at h
    refine jj_iload_n hX dX6_piece_68 3 rfl 69 rfl ?_
    refine jj_aload_n hX dX6_piece_69 0 rfl 70 rfl ?_
    obtain ⟨k70, h⟩ := h
    refine xg6_0 hX hY k70 dX6_piece_70 q334 73 rfl ?_
    obtain ⟨b73, g73, h⟩ := h
    refine jj_st (st2 := [.ref b73, .int x3]) (by rw [va_rf_some g73]) ?_
    obtain ⟨k73, h⟩ := h
    refine xgn5_5 hX hY k73 dX6_piece_73 nq294 76 rfl ?_
    refine jj_icmp_le hX dX6_piece_76 187 79 (by decide) rfl (fun c76 => ?_) (fun c76 => ?_)
    · have h := h.1 c76
      refine jj_iconst hX dX6_piece_187 ci_0 188 rfl ?_
      refine jj_istore (lv2 := [(0, .ref x0), (1, .int x1), (2, .int x2), (3, .int x3), (4, .int (0 : Int32))]) hX dX6_piece_188 (Nat.le_of_ble_eq_true rfl) [1, 2, 3, 4, 0] rfl 190 rfl ?_
      obtain ⟨n9, h⟩ := h
      exact txw6_piece_L190 hX hY n9 _ _ h
    · have h := h.2 c76
      refine jj_aload_n hX dX6_piece_79 0 rfl 80 rfl ?_
      refine xg6_0 hX hY k70 dX6_piece_80 q334 83 rfl ?_
      obtain ⟨b83, g83, h⟩ := h
      refine jj_st (st2 := [.ref b83]) (by rw [va_rf_some g83]) ?_
      obtain ⟨k83, h⟩ := h
      refine xgn5_4 hX hY k83 dX6_piece_83 nq290 86 rfl ?_
      refine jj_if_ge hX dX6_piece_86 99 89 (by decide) rfl (fun c86 => ?_) (fun c86 => ?_)
      · have h := h.1 c86
        refine jj_aload_n hX dX6_piece_99 0 rfl 100 rfl ?_
        refine xg6_0 hX hY k70 dX6_piece_100 q334 103 rfl ?_
        obtain ⟨b103, g103, h⟩ := h
        refine jj_st (st2 := [.ref b103]) (by rw [va_rf_some g103]) ?_
        obtain ⟨k103, h⟩ := h
        refine xgn5_5 hX hY k103 dX6_piece_103 nq294 106 rfl ?_
        refine jj_iconst hX dX6_piece_106 ci_1 107 rfl ?_
        refine jj_isub hX dX6_piece_107 108 rfl ?_
        refine jj_topi (fun v108 e108 => ?_)
        have h := h v108 e108
        refine jj_istore (lv2 := [(0, .ref x0), (1, .int x1), (2, .int x2), (3, .int x3), (4, .int v108)]) hX dX6_piece_108 (Nat.le_of_ble_eq_true rfl) [1, 2, 3, 4, 0] rfl 110 rfl ?_
        refine jj_iconst hX dX6_piece_110 ci_0 111 rfl ?_
        refine jj_istore (lv2 := [(0, .ref x0), (1, .int x1), (2, .int x2), (3, .int x3), (4, .int v108), (5, .int (0 : Int32))]) hX dX6_piece_111 (Nat.le_of_ble_eq_true rfl) [1, 2, 3, 4, 5, 0] rfl 113 rfl ?_
        obtain ⟨n9, h⟩ := h
        exact txw6_piece_L113 hX hY ih n9 _ _ h
      · have h := h.2 c86
        refine jj_aload_n hX dX6_piece_89 0 rfl 90 rfl ?_
        refine xg6_0 hX hY k70 dX6_piece_90 q334 93 rfl ?_
        obtain ⟨b93, g93, h⟩ := h
        refine jj_st (st2 := [.ref b93]) (by rw [va_rf_some g93]) ?_
        obtain ⟨k93, h⟩ := h
        refine xgn5_5 hX hY k93 dX6_piece_93 nq294 96 rfl ?_
        refine jj_goto hX dX6_piece_96 108 (by decide) ?_
        refine jj_topi (fun v108 e108 => ?_)
        have h := h v108 e108
        refine jj_istore (lv2 := [(0, .ref x0), (1, .int x1), (2, .int x2), (3, .int x3), (4, .int v108)]) hX dX6_piece_108 (Nat.le_of_ble_eq_true rfl) [1, 2, 3, 4, 0] rfl 110 rfl ?_
        refine jj_iconst hX dX6_piece_110 ci_0 111 rfl ?_
        refine jj_istore (lv2 := [(0, .ref x0), (1, .int x1), (2, .int x2), (3, .int x3), (4, .int v108), (5, .int (0 : Int32))]) hX dX6_piece_111 (Nat.le_of_ble_eq_true rfl) [1, 2, 3, 4, 5, 0] rfl 113 rfl ?_
        obtain ⟨n9, h⟩ := h
        exact txw6_piece_L113 hX hY ih n9 _ _ h
set_option maxHeartbeats 4000000 in
set_option maxRecDepth 100000 in
theorem txw6_piece_B58 {X : JC} {D : va_G} {dA aK aV : Nat → Nat} {sz : Nat} {K : XK} {Post : XS → Prop} {x0 : Nat} {x1 : Int32} {x2 : Int32} {x3 : Int32} {u : XS} (hX : JX X yX6_piece.cls cX6_piece 6 (Option.none : Option Jvm.ClassFile.FieldType) 1 21 0 0) (hY : JY X D dA aK aV (AX K sz)) (h : xw6_piece_B58 Post K x0 x1 x2 x3  u) : JJ X (AX K sz) (jj_Q X (va_Qv (fun w : XS => Post w) (jx_B D dA K) (AX K sz)) 0 0 (AX K sz)) 6 (XP D dA (AX K sz) K u) 0 0 58 [(0, .ref x0), (1, .int x1), (2, .int x2), (3, .int x3)] [] := by
  unfold xw6_piece_B58 at h
  refine jj_aload_n hX dX6_piece_58 0 rfl 59 rfl ?_
  obtain ⟨k59, h⟩ := h
  refine xg6_11 hX hY k59 dX6_piece_59 q351 62 rfl ?_
  refine jj_iload_n hX dX6_piece_62 1 rfl 63 rfl ?_
  refine jj_aload_n hX dX6_piece_63 0 rfl 64 rfl ?_
  refine xg6_18 hX hY k59 dX6_piece_64 q358 67 rfl ?_
  obtain ⟨b67, g67, h⟩ := h
  refine jj_st (st2 := [.int (xi u x0 18), .int x1, .ref b67]) (by rw [va_rf_some g67]) ?_
  obtain ⟨n67, k67, h⟩ := h
  obtain ⟨hi67, h⟩ := h
  refine jx_iast hX hY.1 k67 _ rfl hi67 dX6_piece_67 68 rfl (fun u67 e67 => ?_)
  have h := h u67 e67
  obtain ⟨n9, h⟩ := h
  exact txw6_piece_L68 hX hY n9 _ _ _ h
set_option maxHeartbeats 4000000 in
set_option maxRecDepth 100000 in
theorem mxw6_piece (l : Launch) (hfl : l.stackTraces = false) (D : va_G) (dA aK aV : Nat → Nat) (x0 : Nat) (x1 : Int32) (K : XK) (u : XS) (Post : XS → Prop) (h : xw6_piece x0 x1 K u Post) (sz : Nat) : Met l yX6_piece (ws_ yX6_piece cX6_piece 6 (Option.none : Option Jvm.ClassFile.FieldType)) (jx_rm 1 21 0 0) (jx_Pc D dA aK aV K u sz [.ref x0, .int x1]) (va_Qv (fun w : XS => Post w) (jx_B D dA K) (AX K sz)) 0 0 (AX K sz) := by
  refine jx_start hfl [.ref x0, .int x1] [(0, .ref x0), (1, .int x1)] (by decide) (Nat.le_of_ble_eq_true rfl) rfl (fun X hX hY hin => ?_)
  unfold xw6_piece at h
  refine jj_aload_n hX dX6_piece_0 0 rfl 1 rfl ?_
  obtain ⟨k1, h⟩ := h
  refine xg6_9 hX hY k1 dX6_piece_1 q349 4 rfl ?_
  refine jj_iload_n hX dX6_piece_4 1 rfl 5 rfl ?_
  obtain ⟨b5, g5, h⟩ := h
  refine jj_st (st2 := [.int x1, .ref b5]) (by rw [va_rf_some g5]) ?_
  obtain ⟨n5, k5, h⟩ := h
  obtain ⟨hi5, h⟩ := h
  refine jx_iald hX hY.1 k5 _ rfl hi5 dX6_piece_5 6 rfl ?_
  refine jj_topi (fun v6 e6 => ?_)
  have h := h v6 e6
  refine jj_istore_n (lv2 := [(0, .ref x0), (1, .int x1), (2, .int v6)]) hX dX6_piece_6 (Nat.le_of_ble_eq_true rfl) [1, 2, 0] rfl 7 rfl ?_
  refine jj_aload_n hX dX6_piece_7 0 rfl 8 rfl ?_
  refine xg6_10 hX hY k1 dX6_piece_8 q350 11 rfl ?_
  refine jj_iload_n hX dX6_piece_11 1 rfl 12 rfl ?_
  obtain ⟨b12, g12, h⟩ := h
  refine jj_st (st2 := [.int x1, .ref b12]) (by rw [va_rf_some g12]) ?_
  obtain ⟨n12, k12, h⟩ := h
  obtain ⟨hi12, h⟩ := h
  refine jx_iald hX hY.1 k12 _ rfl hi12 dX6_piece_12 13 rfl ?_
  refine jj_topi (fun v13 e13 => ?_)
  have h := h v13 e13
  refine jj_istore_n (lv2 := [(0, .ref x0), (1, .int x1), (2, .int v6), (3, .int v13)]) hX dX6_piece_13 (Nat.le_of_ble_eq_true rfl) [1, 2, 3, 0] rfl 14 rfl ?_
  refine jj_aload_n hX dX6_piece_14 0 rfl 15 rfl ?_
  refine kxw6_inLine hX hY k1 q980 (Nat.le_of_ble_eq_true rfl) (Nat.le_of_ble_eq_true rfl) (Nat.zero_le _) (Nat.zero_le _) (Nat.le_of_ble_eq_true rfl) dX6_piece_15 18 rfl h (fun r15 u15 h => ?_)
  refine jj_if_le hX dX6_piece_18 46 21 (by decide) rfl (fun c18 => ?_) (fun c18 => ?_)
  · have h := h.1 c18
    refine jj_aload_n hX dX6_piece_46 0 rfl 47 rfl ?_
    refine kxw6_inLine hX hY k1 q980 (Nat.le_of_ble_eq_true rfl) (Nat.le_of_ble_eq_true rfl) (Nat.zero_le _) (Nat.zero_le _) (Nat.le_of_ble_eq_true rfl) dX6_piece_47 50 rfl h (fun r47 u47 h => ?_)
    refine jj_if_le hX dX6_piece_50 58 53 (by decide) rfl (fun c50 => ?_) (fun c50 => ?_)
    · have h := h.1 c50
      exact txw6_piece_B58 hX hY h
    · have h := h.2 c50
      refine jj_aload_n hX dX6_piece_53 0 rfl 54 rfl ?_
      refine jj_iconst hX dX6_piece_54 ci_0 55 rfl ?_
      refine kxw6_lays hX hY k1 q988 (Nat.le_of_ble_eq_true rfl) (Nat.le_of_ble_eq_true rfl) (Nat.zero_le _) (Nat.zero_le _) (Nat.le_of_ble_eq_true rfl) dX6_piece_55 58 rfl h (fun u55 h => ?_)
      exact txw6_piece_B58 hX hY h
  · have h := h.2 c18
    refine jj_aload_n hX dX6_piece_21 0 rfl 22 rfl ?_
    refine kxw6_inLine hX hY k1 q980 (Nat.le_of_ble_eq_true rfl) (Nat.le_of_ble_eq_true rfl) (Nat.zero_le _) (Nat.zero_le _) (Nat.le_of_ble_eq_true rfl) dX6_piece_22 25 rfl h (fun r22 u22 h => ?_)
    refine jj_iconst hX dX6_piece_25 ci_1 26 rfl ?_
    refine jj_iadd hX dX6_piece_26 27 rfl ?_
    refine jj_iload_n hX dX6_piece_27 3 rfl 28 rfl ?_
    refine jj_iadd hX dX6_piece_28 29 rfl ?_
    refine jj_aload_n hX dX6_piece_29 0 rfl 30 rfl ?_
    refine xg6_0 hX hY k1 dX6_piece_30 q334 33 rfl ?_
    obtain ⟨b33, g33, h⟩ := h
    refine jj_st (st2 := [.ref b33, .int ((r22 + (1 : Int32)) + v13)]) (by rw [va_rf_some g33]) ?_
    obtain ⟨k33, h⟩ := h
    refine xgn5_5 hX hY k33 dX6_piece_33 nq294 36 rfl ?_
    refine jj_icmp_le hX dX6_piece_36 46 39 (by decide) rfl (fun c36 => ?_) (fun c36 => ?_)
    · have h := h.1 c36
      refine jj_aload_n hX dX6_piece_46 0 rfl 47 rfl ?_
      refine kxw6_inLine hX hY k1 q980 (Nat.le_of_ble_eq_true rfl) (Nat.le_of_ble_eq_true rfl) (Nat.zero_le _) (Nat.zero_le _) (Nat.le_of_ble_eq_true rfl) dX6_piece_47 50 rfl h (fun r47 u47 h => ?_)
      refine jj_if_le hX dX6_piece_50 58 53 (by decide) rfl (fun c50 => ?_) (fun c50 => ?_)
      · have h := h.1 c50
        exact txw6_piece_B58 hX hY h
      · have h := h.2 c50
        refine jj_aload_n hX dX6_piece_53 0 rfl 54 rfl ?_
        refine jj_iconst hX dX6_piece_54 ci_0 55 rfl ?_
        refine kxw6_lays hX hY k1 q988 (Nat.le_of_ble_eq_true rfl) (Nat.le_of_ble_eq_true rfl) (Nat.zero_le _) (Nat.zero_le _) (Nat.le_of_ble_eq_true rfl) dX6_piece_55 58 rfl h (fun u55 h => ?_)
        exact txw6_piece_B58 hX hY h
    · have h := h.2 c36
      refine jj_aload_n hX dX6_piece_39 0 rfl 40 rfl ?_
      refine kxw6_ends hX hY k1 q984 (Nat.le_of_ble_eq_true rfl) (Nat.le_of_ble_eq_true rfl) (Nat.zero_le _) (Nat.zero_le _) (Nat.le_of_ble_eq_true rfl) dX6_piece_40 43 rfl h (fun u40 h => ?_)
      refine jj_goto hX dX6_piece_43 58 (by decide) ?_
      exact txw6_piece_B58 hX hY h
theorem hd_xw6_piece : yX6_piece.cls ≠ "java/lang/invoke/MethodHandle" ∧ yX6_piece.cls ≠ "java/lang/invoke/VarHandle" ∧ (parseMethodDescriptor yX6_piece.desc).map (fun d => d.parameters.length) = some 1 := by decide +kernel
theorem kxw6_piece {X : JC} {A : Nat → Prop} {Q : State → Prop} {nL k n pc : Nat} {lv : List (Nat × Value)} {st : List Value} {own : String} {cc : ByteArray} {ret : Option FieldType} {F LL mc ms ix : Nat} {D : va_G} {dA aK aV : Nat → Nat} {K : XK} {u : XS} {x0 : Nat} {x1 : Int32} {Post : XS → Prop} (hX : JX X own cc nL ret F LL mc ms) (hY : JY X D dA aK aV A) (h1a : K x0 = (1, 6)) (hlk : (Cond.methodLink own ix yX6_piece) ∈ lw_all) (hF : 1 + 1 ≤ F) (hL : 8 + (6 + 11) + 21 ≤ LL) (hk : k ≤ mc) (hk2 : n ≤ ms) (hw : (st.map fun v => v.category).sum ≤ 8) (d : decode cc pc = .ok (.invokevirtual ix, 3)) (q : Nat) (hq : pc + 3 = q) (h : xw6_piece x0 x1 K u  Post) (kk : ∀ (u2 : XS), Post u2 → JJ X A Q nL (XP D dA A K u2) k n q lv (st)) : JJ X A Q nL (XP D dA A K u) k n pc lv (.int x1 :: .ref x0 :: st) :=
  jx_callVv (na := 1) (As := [.int x1]) hX hY jf6 h1a (fun sz => mxw6_piece (jj_l X) hY.2.2.2.2 D dA aK aV x0 x1 K u  Post h sz) hlk q978 qs27 q128 q979 ⟨rfl, hd_xw6_piece⟩ rfl rfl hw hF hL hk hk2 d q hq kk
theorem knxw6_piece {X : JC} {A : Nat → Prop} {Q : State → Prop} {nL k n pc : Nat} {lv : List (Nat × Value)} {st : List Value} {own : String} {cc : ByteArray} {ret : Option FieldType} {F LL mc ms ix : Nat} {D : va_G} {dA aK aV : Nat → Nat} {K : XK} {u : XS} {x0 : Nat} {x1 : Int32} {host : String} {Post : XS → Prop} (hX : JX X own cc nL ret F LL mc ms) (hY : JY X D dA aK aV A) (h1a : K x0 = (1, 6)) (hlk : (Cond.methodLinkNest own ix yX6_piece host) ∈ jx_nest) (hF : 1 + 1 ≤ F) (hL : 8 + (6 + 11) + 21 ≤ LL) (hk : k ≤ mc) (hk2 : n ≤ ms) (hw : (st.map fun v => v.category).sum ≤ 8) (d : decode cc pc = .ok (.invokevirtual ix, 3)) (q : Nat) (hq : pc + 3 = q) (h : xw6_piece x0 x1 K u  Post) (kk : ∀ (u2 : XS), Post u2 → JJ X A Q nL (XP D dA A K u2) k n q lv (st)) : JJ X A Q nL (XP D dA A K u) k n pc lv (.int x1 :: .ref x0 :: st) :=
  jx_callNv (na := 1) (As := [.int x1]) hX hY jf6 h1a (fun sz => mxw6_piece (jj_l X) hY.2.2.2.2 D dA aK aV x0 x1 K u  Post h sz) hlk q978 qs27 q128 q979 hd_xw6_piece rfl rfl hw hF hL hk hk2 d q hq kk
/-- RaisedPress$Writing.<init>([B)V -/
def xw15_init (x0 : Nat) (x1 : Nat) (K : XK) (u : XS) (mc ms : Nat) (Post : XK → XS → Prop) : Prop :=
  1 ≤ mc ∧ 0 ≤ ms ∧ ∀ (b6 : Nat) (K6 : XK) (u6 : XS), (K b6).1 = 0 → K6 = xup K b6 (2, 0) → u6 = xz u b6 →
  K6 x0 = (1, 15) ∧
  ∀ u8 : XS, u8 = xsr u6 x0 1 (some b6) →
  2 ≤ mc ∧ 0 ≤ ms ∧ ∀ (b13 : Nat) (K13 : XK) (u13 : XS), (K6 b13).1 = 0 → K13 = xup K6 b13 (2, 0) → u13 = xz u8 b13 →
  ∀ u15 : XS, u15 = xsr u13 x0 2 (some b13) →
  3 ≤ mc ∧ 0 ≤ ms ∧ ∀ (b20 : Nat) (K20 : XK) (u20 : XS), (K13 b20).1 = 0 → K20 = xup K13 b20 (2, 0) → u20 = xz u15 b20 →
  ∀ u22 : XS, u22 = xsr u20 x0 3 (some b20) →
  4 ≤ mc ∧ 0 ≤ ms ∧ ∀ (b27 : Nat) (K27 : XK) (u27 : XS), (K20 b27).1 = 0 → K27 = xup K20 b27 (2, 0) → u27 = xz u22 b27 →
  ∀ u29 : XS, u29 = xsr u27 x0 4 (some b27) →
  5 ≤ mc ∧ 0 ≤ ms ∧ ∀ (b34 : Nat) (K34 : XK) (u34 : XS), (K27 b34).1 = 0 → K34 = xup K27 b34 (2, 0) → u34 = xz u29 b34 →
  ∀ u36 : XS, u36 = xsr u34 x0 5 (some b34) →
  6 ≤ mc ∧ 0 ≤ ms ∧ ∀ (b41 : Nat) (K41 : XK) (u41 : XS), (K34 b41).1 = 0 → K41 = xup K34 b41 (2, 0) → u41 = xz u36 b41 →
  ∀ u43 : XS, u43 = xsr u41 x0 6 (some b41) →
  7 ≤ mc ∧ 0 ≤ ms ∧ ∀ (b48 : Nat) (K48 : XK) (u48 : XS), (K41 b48).1 = 0 → K48 = xup K41 b48 (2, 0) → u48 = xz u43 b48 →
  ∀ u50 : XS, u50 = xsr u48 x0 7 (some b48) →
  8 ≤ mc ∧ 0 ≤ ms ∧ ∀ (b55 : Nat) (K55 : XK) (u55 : XS), (K48 b55).1 = 0 → K55 = xup K48 b55 (2, 0) → u55 = xz u50 b55 →
  ∀ u57 : XS, u57 = xsr u55 x0 8 (some b55) →
  9 ≤ mc ∧ 24 ≤ ms ∧ ∀ (b63 : Nat) (K63 : XK) (u63 : XS), (K55 b63).1 = 0 → K63 = xup K55 b63 (2, 24) → u63 = xz u57 b63 →
  ∀ u65 : XS, u65 = xsr u63 x0 9 (some b63) →
  ∀ u70 : XS, u70 = xsr u65 x0 0 (some x1) →
  Post K63 u70
set_option maxHeartbeats 4000000 in
set_option maxRecDepth 100000 in
theorem mxw15_init (l : Launch) (hfl : l.stackTraces = false) (D : va_G) (dA aK aV : Nat → Nat) (x0 : Nat) (x1 : Nat) (K : XK) (u : XS) (mc ms : Nat) (Post : XK → XS → Prop) (h : xw15_init x0 x1 K u mc ms Post) (sz : Nat) : Met l yX15_init (ws_ yX15_init cX15_init 2 (Option.none : Option Jvm.ClassFile.FieldType)) (jx_rm 1 20 mc ms) (jx_Pc D dA aK aV K u sz [.ref x0, .ref x1]) (va_Qv (fun w : XK × XS => Post w.1 w.2) (jx_BA D dA K sz) (AX K sz)) mc ms (AX K sz) := by
  refine jx_start hfl [.ref x0, .ref x1] [(0, .ref x0), (1, .ref x1)] (by decide) (Nat.le_of_ble_eq_true rfl) rfl (fun X hX hY hin => ?_)
  unfold xw15_init at h
  refine jj_aload_n hX dX15_init_0 0 rfl 1 rfl ?_
  refine jj_oinit hX q998 (Nat.le_of_ble_eq_true rfl) (Nat.le_of_ble_eq_true rfl) (Nat.le_of_ble_eq_true rfl) dX15_init_1 4 rfl ?_
  refine jj_aload_n hX dX15_init_4 0 rfl 5 rfl ?_
  refine jj_iconst hX dX15_init_5 ci_0 6 rfl ?_
  obtain ⟨hc6, hs6, h⟩ := h
  refine jx_na0 hX hY (by decide) 0 kc_0 (Nat.le_of_ble_eq_true rfl) hc6 hs6 dX15_init_6 8 rfl (fun b6 K6 u6 hb6 eK6 e6 => ?_)
  have h := h b6 K6 u6 hb6 eK6 e6
  have hleb6 : XLe K K6 := by rw [eK6]; exact XLe.up hb6
  have hl6 := XLe.rf.tr hleb6
  have k6 : K6 b6 = (2, 0) := by rw [eK6]; exact xup_at
  refine jj_cs (k2 := 1) (n2 := 0) rfl rfl ?_
  obtain ⟨k8, h⟩ := h
  refine xp15_1 (v := (some b6)) hX hY k8 dX15_init_8 q1001 11 rfl (fun u8 e8 => ?_)
  have h := h u8 e8
  refine jj_aload_n hX dX15_init_11 0 rfl 12 rfl ?_
  refine jj_iconst hX dX15_init_12 ci_0 13 rfl ?_
  obtain ⟨hc13, hs13, h⟩ := h
  refine jx_na0 hX hY (by decide) 0 kc_0 (Nat.le_of_ble_eq_true rfl) hc13 hs13 dX15_init_13 15 rfl (fun b13 K13 u13 hb13 eK13 e13 => ?_)
  have h := h b13 K13 u13 hb13 eK13 e13
  have hleb13 : XLe K6 K13 := by rw [eK13]; exact XLe.up hb13
  have k13 := hleb13.at k6 (by simp)
  have k13_1 := hleb13.at k8 (by simp)
  have hl13 := hl6.tr hleb13
  have k13_2 : K13 b13 = (2, 0) := by rw [eK13]; exact xup_at
  refine jj_cs (k2 := 2) (n2 := 0) rfl rfl ?_
  refine xp15_2 (v := (some b13)) hX hY k13_1 dX15_init_15 q1004 18 rfl (fun u15 e15 => ?_)
  have h := h u15 e15
  refine jj_aload_n hX dX15_init_18 0 rfl 19 rfl ?_
  refine jj_iconst hX dX15_init_19 ci_0 20 rfl ?_
  obtain ⟨hc20, hs20, h⟩ := h
  refine jx_na0 hX hY (by decide) 0 kc_0 (Nat.le_of_ble_eq_true rfl) hc20 hs20 dX15_init_20 22 rfl (fun b20 K20 u20 hb20 eK20 e20 => ?_)
  have h := h b20 K20 u20 hb20 eK20 e20
  have hleb20 : XLe K13 K20 := by rw [eK20]; exact XLe.up hb20
  have k20 := hleb20.at k13 (by simp)
  have k20_1 := hleb20.at k13_1 (by simp)
  have k20_2 := hleb20.at k13_2 (by simp)
  have hl20 := hl13.tr hleb20
  have k20_3 : K20 b20 = (2, 0) := by rw [eK20]; exact xup_at
  refine jj_cs (k2 := 3) (n2 := 0) rfl rfl ?_
  refine xp15_3 (v := (some b20)) hX hY k20_1 dX15_init_22 q1007 25 rfl (fun u22 e22 => ?_)
  have h := h u22 e22
  refine jj_aload_n hX dX15_init_25 0 rfl 26 rfl ?_
  refine jj_iconst hX dX15_init_26 ci_0 27 rfl ?_
  obtain ⟨hc27, hs27, h⟩ := h
  refine jx_na0 hX hY (by decide) 0 kc_0 (Nat.le_of_ble_eq_true rfl) hc27 hs27 dX15_init_27 29 rfl (fun b27 K27 u27 hb27 eK27 e27 => ?_)
  have h := h b27 K27 u27 hb27 eK27 e27
  have hleb27 : XLe K20 K27 := by rw [eK27]; exact XLe.up hb27
  have k27 := hleb27.at k20 (by simp)
  have k27_1 := hleb27.at k20_1 (by simp)
  have k27_2 := hleb27.at k20_2 (by simp)
  have k27_3 := hleb27.at k20_3 (by simp)
  have hl27 := hl20.tr hleb27
  have k27_4 : K27 b27 = (2, 0) := by rw [eK27]; exact xup_at
  refine jj_cs (k2 := 4) (n2 := 0) rfl rfl ?_
  refine xp15_4 (v := (some b27)) hX hY k27_1 dX15_init_29 q1010 32 rfl (fun u29 e29 => ?_)
  have h := h u29 e29
  refine jj_aload_n hX dX15_init_32 0 rfl 33 rfl ?_
  refine jj_iconst hX dX15_init_33 ci_0 34 rfl ?_
  obtain ⟨hc34, hs34, h⟩ := h
  refine jx_na0 hX hY (by decide) 0 kc_0 (Nat.le_of_ble_eq_true rfl) hc34 hs34 dX15_init_34 36 rfl (fun b34 K34 u34 hb34 eK34 e34 => ?_)
  have h := h b34 K34 u34 hb34 eK34 e34
  have hleb34 : XLe K27 K34 := by rw [eK34]; exact XLe.up hb34
  have k34 := hleb34.at k27 (by simp)
  have k34_1 := hleb34.at k27_1 (by simp)
  have k34_2 := hleb34.at k27_2 (by simp)
  have k34_3 := hleb34.at k27_3 (by simp)
  have k34_4 := hleb34.at k27_4 (by simp)
  have hl34 := hl27.tr hleb34
  have k34_5 : K34 b34 = (2, 0) := by rw [eK34]; exact xup_at
  refine jj_cs (k2 := 5) (n2 := 0) rfl rfl ?_
  refine xp15_5 (v := (some b34)) hX hY k34_1 dX15_init_36 q1013 39 rfl (fun u36 e36 => ?_)
  have h := h u36 e36
  refine jj_aload_n hX dX15_init_39 0 rfl 40 rfl ?_
  refine jj_iconst hX dX15_init_40 ci_0 41 rfl ?_
  obtain ⟨hc41, hs41, h⟩ := h
  refine jx_na0 hX hY (by decide) 0 kc_0 (Nat.le_of_ble_eq_true rfl) hc41 hs41 dX15_init_41 43 rfl (fun b41 K41 u41 hb41 eK41 e41 => ?_)
  have h := h b41 K41 u41 hb41 eK41 e41
  have hleb41 : XLe K34 K41 := by rw [eK41]; exact XLe.up hb41
  have k41 := hleb41.at k34 (by simp)
  have k41_1 := hleb41.at k34_1 (by simp)
  have k41_2 := hleb41.at k34_2 (by simp)
  have k41_3 := hleb41.at k34_3 (by simp)
  have k41_4 := hleb41.at k34_4 (by simp)
  have k41_5 := hleb41.at k34_5 (by simp)
  have hl41 := hl34.tr hleb41
  have k41_6 : K41 b41 = (2, 0) := by rw [eK41]; exact xup_at
  refine jj_cs (k2 := 6) (n2 := 0) rfl rfl ?_
  refine xp15_6 (v := (some b41)) hX hY k41_1 dX15_init_43 q1016 46 rfl (fun u43 e43 => ?_)
  have h := h u43 e43
  refine jj_aload_n hX dX15_init_46 0 rfl 47 rfl ?_
  refine jj_iconst hX dX15_init_47 ci_0 48 rfl ?_
  obtain ⟨hc48, hs48, h⟩ := h
  refine jx_na0 hX hY (by decide) 0 kc_0 (Nat.le_of_ble_eq_true rfl) hc48 hs48 dX15_init_48 50 rfl (fun b48 K48 u48 hb48 eK48 e48 => ?_)
  have h := h b48 K48 u48 hb48 eK48 e48
  have hleb48 : XLe K41 K48 := by rw [eK48]; exact XLe.up hb48
  have k48 := hleb48.at k41 (by simp)
  have k48_1 := hleb48.at k41_1 (by simp)
  have k48_2 := hleb48.at k41_2 (by simp)
  have k48_3 := hleb48.at k41_3 (by simp)
  have k48_4 := hleb48.at k41_4 (by simp)
  have k48_5 := hleb48.at k41_5 (by simp)
  have k48_6 := hleb48.at k41_6 (by simp)
  have hl48 := hl41.tr hleb48
  have k48_7 : K48 b48 = (2, 0) := by rw [eK48]; exact xup_at
  refine jj_cs (k2 := 7) (n2 := 0) rfl rfl ?_
  refine xp15_7 (v := (some b48)) hX hY k48_1 dX15_init_50 q1019 53 rfl (fun u50 e50 => ?_)
  have h := h u50 e50
  refine jj_aload_n hX dX15_init_53 0 rfl 54 rfl ?_
  refine jj_iconst hX dX15_init_54 ci_0 55 rfl ?_
  obtain ⟨hc55, hs55, h⟩ := h
  refine jx_na0 hX hY (by decide) 0 kc_0 (Nat.le_of_ble_eq_true rfl) hc55 hs55 dX15_init_55 57 rfl (fun b55 K55 u55 hb55 eK55 e55 => ?_)
  have h := h b55 K55 u55 hb55 eK55 e55
  have hleb55 : XLe K48 K55 := by rw [eK55]; exact XLe.up hb55
  have k55 := hleb55.at k48 (by simp)
  have k55_1 := hleb55.at k48_1 (by simp)
  have k55_2 := hleb55.at k48_2 (by simp)
  have k55_3 := hleb55.at k48_3 (by simp)
  have k55_4 := hleb55.at k48_4 (by simp)
  have k55_5 := hleb55.at k48_5 (by simp)
  have k55_6 := hleb55.at k48_6 (by simp)
  have k55_7 := hleb55.at k48_7 (by simp)
  have hl55 := hl48.tr hleb55
  have k55_8 : K55 b55 = (2, 0) := by rw [eK55]; exact xup_at
  refine jj_cs (k2 := 8) (n2 := 0) rfl rfl ?_
  refine xp15_8 (v := (some b55)) hX hY k55_1 dX15_init_57 q1022 60 rfl (fun u57 e57 => ?_)
  have h := h u57 e57
  refine jj_aload_n hX dX15_init_60 0 rfl 61 rfl ?_
  refine jj_bipush hX dX15_init_61 cb_24 63 rfl ?_
  obtain ⟨hc63, hs63, h⟩ := h
  refine jx_na0 hX hY (by decide) 24 kc_24 (Nat.le_of_ble_eq_true rfl) hc63 hs63 dX15_init_63 65 rfl (fun b63 K63 u63 hb63 eK63 e63 => ?_)
  have h := h b63 K63 u63 hb63 eK63 e63
  have hleb63 : XLe K55 K63 := by rw [eK63]; exact XLe.up hb63
  have k63 := hleb63.at k55 (by simp)
  have k63_1 := hleb63.at k55_1 (by simp)
  have k63_2 := hleb63.at k55_2 (by simp)
  have k63_3 := hleb63.at k55_3 (by simp)
  have k63_4 := hleb63.at k55_4 (by simp)
  have k63_5 := hleb63.at k55_5 (by simp)
  have k63_6 := hleb63.at k55_6 (by simp)
  have k63_7 := hleb63.at k55_7 (by simp)
  have k63_8 := hleb63.at k55_8 (by simp)
  have hl63 := hl55.tr hleb63
  have k63_9 : K63 b63 = (2, 24) := by rw [eK63]; exact xup_at
  refine jj_cs (k2 := 9) (n2 := 24) rfl rfl ?_
  refine xpf15_9 (v := (some b63)) hX hY hin rfl k63_1 dX15_init_65 q1025 68 rfl (fun u65 e65 => ?_)
  have h := h u65 e65
  refine jj_aload_n hX dX15_init_68 0 rfl 69 rfl ?_
  refine jj_aload_n hX dX15_init_69 1 rfl 70 rfl ?_
  refine xpf15_0 (v := (some x1)) hX hY hin rfl k63_1 dX15_init_70 q999 73 rfl (fun u70 e70 => ?_)
  have h := h u70 e70
  exact jj_retv (post := (fun w : XK × XS => Post w.1 w.2)) (u := (K63, u70)) hX dX15_init_73 hc63 hs63 (jx_hBA hl63) h
theorem hd_xw15_init : yX15_init.cls ≠ "java/lang/invoke/MethodHandle" ∧ yX15_init.cls ≠ "java/lang/invoke/VarHandle" ∧ (parseMethodDescriptor yX15_init.desc).map (fun d => d.parameters.length) = some 1 := by decide +kernel
theorem kxw15_init {X : JC} {A : Nat → Prop} {Q : State → Prop} {nL k n pc : Nat} {lv : List (Nat × Value)} {st : List Value} {own : String} {cc : ByteArray} {ret : Option FieldType} {F LL mc ms ix mc2 ms2 : Nat} {D : va_G} {dA aK aV : Nat → Nat} {K : XK} {u : XS} {x0 : Nat} {x1 : Nat} {Post : XK → XS → Prop} (hX : JX X own cc nL ret F LL mc ms) (hY : JY X D dA aK aV A) (hlk : (Cond.methodLink own ix yX15_init) ∈ lw_all) (hF : 1 + 1 ≤ F) (hL : 8 + (2 + 11) + 20 ≤ LL) (hk : k + mc2 ≤ mc) (hk2 : n + ms2 ≤ ms) (hw : (st.map fun v => v.category).sum ≤ 8) (d : decode cc pc = .ok (.invokespecial ix, 3)) (q : Nat) (hq : pc + 3 = q) (h : xw15_init x0 x1 K u mc2 ms2 Post) (kk : ∀ (K2 : XK) (u2 : XS), XLe K K2 → Post K2 u2 → JJ X A Q nL (XP D dA A K2 u2) (k + mc2) (n + ms2) q lv (st)) : JJ X A Q nL (XP D dA A K u) k n pc lv (.ref x1 :: .ref x0 :: st) :=
  jx_callIvA (na := 1) (As := [.ref x1]) hX hY (fun sz => mxw15_init (jj_l X) hY.2.2.2.2 D dA aK aV x0 x1 K u mc2 ms2 Post h sz) hlk q996 q147 rfl q997 hd_xw15_init rfl rfl hw hF hL hk hk2 d q hq kk
theorem knxw15_init {X : JC} {A : Nat → Prop} {Q : State → Prop} {nL k n pc : Nat} {lv : List (Nat × Value)} {st : List Value} {own : String} {cc : ByteArray} {ret : Option FieldType} {F LL mc ms ix mc2 ms2 : Nat} {D : va_G} {dA aK aV : Nat → Nat} {K : XK} {u : XS} {x0 : Nat} {x1 : Nat} {host : String} {Post : XK → XS → Prop} (hX : JX X own cc nL ret F LL mc ms) (hY : JY X D dA aK aV A) (hlk : (Cond.methodLinkNest own ix yX15_init host) ∈ jx_nest) (hF : 1 + 1 ≤ F) (hL : 8 + (2 + 11) + 20 ≤ LL) (hk : k + mc2 ≤ mc) (hk2 : n + ms2 ≤ ms) (hw : (st.map fun v => v.category).sum ≤ 8) (d : decode cc pc = .ok (.invokespecial ix, 3)) (q : Nat) (hq : pc + 3 = q) (h : xw15_init x0 x1 K u mc2 ms2 Post) (kk : ∀ (K2 : XK) (u2 : XS), XLe K K2 → Post K2 u2 → JJ X A Q nL (XP D dA A K2 u2) (k + mc2) (n + ms2) q lv (st)) : JJ X A Q nL (XP D dA A K u) k n pc lv (.ref x1 :: .ref x0 :: st) :=
  jx_callINvA (na := 1) (As := [.ref x1]) hX hY (fun sz => mxw15_init (jj_l X) hY.2.2.2.2 D dA aK aV x0 x1 K u mc2 ms2 Post h sz) hlk q996 q147 rfl q997 hd_xw15_init rfl rfl hw hF hL hk hk2 d q hq kk
