set_option linter.unusedVariables false
/-- RaisedPressModel.isLine(I)Z -/
def mw_isLine (x1 : Int32) (u : MS) (Post : Int32 → MS → Prop) : Prop :=
  mw_isSet u (fun r1 u1 =>
    (¬ r1 = 0 →
      mw_laysLines u1 (fun u10 =>
        (x1 < 0 →
          Post (0 : Int32) u10) ∧
        (¬ x1 < 0 →
          ((jm_i u10 0 27) ≤ x1 →
            Post (0 : Int32) u10) ∧
          (¬ (jm_i u10 0 27) ≤ x1 →
            Post (1 : Int32) u10)))) ∧
    (r1 = 0 →
      Post (0 : Int32) u1))
set_option maxHeartbeats 4000000 in
set_option maxRecDepth 100000 in
theorem mmw_isLine (l : Launch) (D : va_G) (dA ad : Nat → Nat) (hD : MD ad) (x1 : Int32) (u : MS) (Post : Int32 → MS → Prop) (h : mw_isLine x1 u Post) : Met l yX7_isLine (ws_ yX7_isLine cX7_isLine 2 (Option.some Jvm.ClassFile.FieldType.boolean)) (jm_rm 2 47) (jm_Pc D dA ad u [.int x1]) (va_Qi (fun r u => Post r u ∧ jj_z r) (jm_B D dA ad) (AM ad)) 0 0 (AM ad) := by
  refine jm_start [.int x1] [(0, .ref (ad 0)), (1, .int x1)] (by decide) (Nat.le_of_ble_eq_true rfl) rfl (fun X hX hK => ?_)
  unfold mw_isLine at h
  refine jj_aload_n hX dX7_isLine_0 0 rfl 1 rfl ?_
  refine kmw_isSet hX hK hD q1864 (Nat.le_of_ble_eq_true rfl) (Nat.le_of_ble_eq_true rfl) (Nat.zero_le _) (Nat.zero_le _) (Nat.le_of_ble_eq_true rfl) dX7_isLine_1 4 rfl h (fun r1 u1 hb1 h => ?_)
  refine jj_if_ne hX dX7_isLine_4 9 7 (by decide) rfl (fun c4 => ?_) (fun c4 => ?_)
  · have h := h.1 c4
    refine jj_aload_n hX dX7_isLine_9 0 rfl 10 rfl ?_
    refine kmw_laysLines hX hK hD q1876 (Nat.le_of_ble_eq_true rfl) (Nat.le_of_ble_eq_true rfl) (Nat.zero_le _) (Nat.zero_le _) (Nat.le_of_ble_eq_true rfl) dX7_isLine_10 13 rfl h (fun u10 h => ?_)
    refine jj_iload_n hX dX7_isLine_13 1 rfl 14 rfl ?_
    refine jj_if_lt hX dX7_isLine_14 29 17 (by decide) rfl (fun c14 => ?_) (fun c14 => ?_)
    · have h := h.1 c14
      refine jj_iconst hX dX7_isLine_29 ci_0 30 rfl ?_
      exact jj_retz (post := Post) (u := u10) hX dX7_isLine_30 (Nat.le_refl 0) (Nat.le_refl 0) jm_hB jj_z0 h
    · have h := h.2 c14
      refine jj_iload_n hX dX7_isLine_17 1 rfl 18 rfl ?_
      refine jt_27 hX hK dX7_isLine_18 0 rfl dX7_isLine_19 q1511 22 rfl rfl ?_
      refine jj_icmp_ge hX dX7_isLine_22 29 25 (by decide) rfl (fun c22 => ?_) (fun c22 => ?_)
      · have h := h.1 c22
        refine jj_iconst hX dX7_isLine_29 ci_0 30 rfl ?_
        exact jj_retz (post := Post) (u := u10) hX dX7_isLine_30 (Nat.le_refl 0) (Nat.le_refl 0) jm_hB jj_z0 h
      · have h := h.2 c22
        refine jj_iconst hX dX7_isLine_25 ci_1 26 rfl ?_
        refine jj_goto hX dX7_isLine_26 30 (by decide) ?_
        exact jj_retz (post := Post) (u := u10) hX dX7_isLine_30 (Nat.le_refl 0) (Nat.le_refl 0) jm_hB jj_z1 h
  · have h := h.2 c4
    refine jj_iconst hX dX7_isLine_7 ci_0 8 rfl ?_
    exact jj_retz (post := Post) (u := u1) hX dX7_isLine_8 (Nat.le_refl 0) (Nat.le_refl 0) jm_hB jj_z0 h
theorem hd_mw_isLine : yX7_isLine.cls = RX7 ∧ yX7_isLine.cls ≠ "java/lang/invoke/MethodHandle" ∧ yX7_isLine.cls ≠ "java/lang/invoke/VarHandle" ∧ (parseMethodDescriptor yX7_isLine.desc).map (fun d => d.parameters.length) = some 1 := by decide +kernel
theorem kmw_isLine {X : JC} {Q : State → Prop} {nL k n pc : Nat} {lv : List (Nat × Value)} {st : List Value} {own : String} {cc : ByteArray} {ret : Option FieldType} {F LL mc ms ix : Nat} {D : va_G} {dA ad : Nat → Nat} {x1 : Int32} {u : MS} {Post : Int32 → MS → Prop} (hX : JX X own cc nL ret F LL mc ms) (hK : KM D dA (jj_s X)) (hD : MD ad) (hlk : (Cond.methodLink own ix yX7_isLine) ∈ lw_all) (hF : 2 + 1 ≤ F) (hL : 8 + (2 + 11) + 47 ≤ LL) (hk : k ≤ mc) (hk2 : n ≤ ms) (hw : (st.map fun v => v.category).sum ≤ 8) (d : decode cc pc = .ok (.invokevirtual ix, 3)) (q : Nat) (hq : pc + 3 = q) (h : mw_isLine x1 u Post) (kk : ∀ (r : Int32) (u2 : MS), jj_z r → Post r u2 → JJ X (AM ad) Q nL (MW D dA ad u2) k n q lv (.int r :: st)) : JJ X (AM ad) Q nL (MW D dA ad u) k n pc lv (.int x1 :: .ref (ad 0) :: st) :=
  jm_callz (na := 1) (As := [.int x1]) hX hK (mmw_isLine (jj_l X) D dA ad hD x1 u Post h) hlk q1902 qs97 q129 q1903 hd_mw_isLine rfl rfl hw hF hL hk hk2 d q hq kk
/-- RaisedPressModel.line(I)I -/
def mw_line (x1 : Int32) (u : MS) (Post : Int32 → MS → Prop) : Prop :=
  mw_isLine x1 u (fun r2 u2 =>
    (r2 = 0 →
      mw_refuse (6 : Int32) u2 (fun r24 u24 =>
        Post r24 u24)) ∧
    (¬ r2 = 0 →
      vp_in x1 1300 ∧
      mw_gives (jm_i u2 9 x1.toNatClampNeg) u2 (fun r15 u15 =>
        Post r15 u15)))
set_option maxHeartbeats 4000000 in
set_option maxRecDepth 100000 in
theorem mmw_line (l : Launch) (D : va_G) (dA ad : Nat → Nat) (hD : MD ad) (x1 : Int32) (u : MS) (Post : Int32 → MS → Prop) (h : mw_line x1 u Post) : Met l yX7_line (ws_ yX7_line cX7_line 2 (Option.some Jvm.ClassFile.FieldType.int)) (jm_rm 3 68) (jm_Pc D dA ad u [.int x1]) (va_Qi Post (jm_B D dA ad) (AM ad)) 0 0 (AM ad) := by
  refine jm_start [.int x1] [(0, .ref (ad 0)), (1, .int x1)] (by decide) (Nat.le_of_ble_eq_true rfl) rfl (fun X hX hK => ?_)
  unfold mw_line at h
  refine jj_aload_n hX dX7_line_0 0 rfl 1 rfl ?_
  refine jj_iload_n hX dX7_line_1 1 rfl 2 rfl ?_
  refine kmw_isLine hX hK hD q1900 (Nat.le_of_ble_eq_true rfl) (Nat.le_of_ble_eq_true rfl) (Nat.zero_le _) (Nat.zero_le _) (Nat.le_of_ble_eq_true rfl) dX7_line_2 5 rfl h (fun r2 u2 hb2 h => ?_)
  refine jj_if_eq hX dX7_line_5 21 8 (by decide) rfl (fun c5 => ?_) (fun c5 => ?_)
  · have h := h.1 c5
    refine jj_aload_n hX dX7_line_21 0 rfl 22 rfl ?_
    refine jj_bipush hX dX7_line_22 cb_6 24 rfl ?_
    refine kmw_refuse hX hK hD q1702 (Nat.le_of_ble_eq_true rfl) (Nat.le_of_ble_eq_true rfl) (Nat.zero_le _) (Nat.zero_le _) (Nat.le_of_ble_eq_true rfl) dX7_line_24 27 rfl h (fun r24 u24 h => ?_)
    exact jj_reti (post := Post) (u := u24) hX dX7_line_27 (Nat.le_refl 0) (Nat.le_refl 0) jm_hB h
  · have h := h.2 c5
    refine jj_aload_n hX dX7_line_8 0 rfl 9 rfl ?_
    refine jt_24 hX hK dX7_line_9 0 rfl dX7_line_10 q1508 13 rfl rfl ?_
    refine jj_iload_n hX dX7_line_13 1 rfl 14 rfl ?_
    obtain ⟨hi14, h⟩ := h
    refine jr_9 hX hK _ rfl hi14 dX7_line_14 15 rfl ?_
    refine kmw_gives hX hK hD q1752 (Nat.le_of_ble_eq_true rfl) (Nat.le_of_ble_eq_true rfl) (Nat.zero_le _) (Nat.zero_le _) (Nat.le_of_ble_eq_true rfl) dX7_line_15 18 rfl h (fun r15 u15 h => ?_)
    refine jj_goto hX dX7_line_18 27 (by decide) ?_
    exact jj_reti (post := Post) (u := u15) hX dX7_line_27 (Nat.le_refl 0) (Nat.le_refl 0) jm_hB h
theorem hd_mw_line : yX7_line.cls = RX7 ∧ yX7_line.cls ≠ "java/lang/invoke/MethodHandle" ∧ yX7_line.cls ≠ "java/lang/invoke/VarHandle" ∧ (parseMethodDescriptor yX7_line.desc).map (fun d => d.parameters.length) = some 1 := by decide +kernel
theorem kmw_line {X : JC} {Q : State → Prop} {nL k n pc : Nat} {lv : List (Nat × Value)} {st : List Value} {own : String} {cc : ByteArray} {ret : Option FieldType} {F LL mc ms ix : Nat} {D : va_G} {dA ad : Nat → Nat} {x1 : Int32} {u : MS} {Post : Int32 → MS → Prop} (hX : JX X own cc nL ret F LL mc ms) (hK : KM D dA (jj_s X)) (hD : MD ad) (hlk : (Cond.methodLink own ix yX7_line) ∈ lw_all) (hF : 3 + 1 ≤ F) (hL : 8 + (2 + 11) + 68 ≤ LL) (hk : k ≤ mc) (hk2 : n ≤ ms) (hw : (st.map fun v => v.category).sum ≤ 8) (d : decode cc pc = .ok (.invokevirtual ix, 3)) (q : Nat) (hq : pc + 3 = q) (h : mw_line x1 u Post) (kk : ∀ (r : Int32) (u2 : MS), Post r u2 → JJ X (AM ad) Q nL (MW D dA ad u2) k n q lv (.int r :: st)) : JJ X (AM ad) Q nL (MW D dA ad u) k n pc lv (.int x1 :: .ref (ad 0) :: st) :=
  jm_calli (na := 1) (As := [.int x1]) hX hK (mmw_line (jj_l X) D dA ad hD x1 u Post h) hlk q1897 q1898 q129 q1899 hd_mw_line rfl rfl hw hF hL hk hk2 d q hq kk
/-- RaisedPressModel.lineAt(II)I -/
def mw_lineAt (x1 : Int32) (x2 : Int32) (u : MS) (Post : Int32 → MS → Prop) : Prop :=
  mw_isLine x1 u (fun r2 u2 =>
    (r2 = 0 →
      mw_refuse (6 : Int32) u2 (fun r45 u45 =>
        Post r45 u45)) ∧
    (¬ r2 = 0 →
      (x2 < 0 →
        mw_refuse (6 : Int32) u2 (fun r45 u45 =>
          Post r45 u45)) ∧
      (¬ x2 < 0 →
        vp_in x1 1300 ∧
        ((jm_i u2 9 x1.toNatClampNeg) ≤ x2 →
          mw_refuse (6 : Int32) u2 (fun r45 u45 =>
            Post r45 u45)) ∧
        (¬ (jm_i u2 9 x1.toNatClampNeg) ≤ x2 →
          vp_in x1 1300 ∧
          vp_in ((jm_i u2 8 x1.toNatClampNeg) + x2) 2600 ∧
          mw_gives (jm_i u2 7 ((jm_i u2 8 x1.toNatClampNeg) + x2).toNatClampNeg) u2 (fun r36 u36 =>
            Post r36 u36)))))
set_option maxHeartbeats 4000000 in
set_option maxRecDepth 100000 in
theorem mmw_lineAt (l : Launch) (D : va_G) (dA ad : Nat → Nat) (hD : MD ad) (x1 : Int32) (x2 : Int32) (u : MS) (Post : Int32 → MS → Prop) (h : mw_lineAt x1 x2 u Post) : Met l yX7_lineAt (ws_ yX7_lineAt cX7_lineAt 3 (Option.some Jvm.ClassFile.FieldType.int)) (jm_rm 3 68) (jm_Pc D dA ad u [.int x1, .int x2]) (va_Qi Post (jm_B D dA ad) (AM ad)) 0 0 (AM ad) := by
  refine jm_start [.int x1, .int x2] [(0, .ref (ad 0)), (1, .int x1), (2, .int x2)] (by decide) (Nat.le_of_ble_eq_true rfl) rfl (fun X hX hK => ?_)
  unfold mw_lineAt at h
  refine jj_aload_n hX dX7_lineAt_0 0 rfl 1 rfl ?_
  refine jj_iload_n hX dX7_lineAt_1 1 rfl 2 rfl ?_
  refine kmw_isLine hX hK hD q1900 (Nat.le_of_ble_eq_true rfl) (Nat.le_of_ble_eq_true rfl) (Nat.zero_le _) (Nat.zero_le _) (Nat.le_of_ble_eq_true rfl) dX7_lineAt_2 5 rfl h (fun r2 u2 hb2 h => ?_)
  refine jj_if_eq hX dX7_lineAt_5 42 8 (by decide) rfl (fun c5 => ?_) (fun c5 => ?_)
  · have h := h.1 c5
    refine jj_aload_n hX dX7_lineAt_42 0 rfl 43 rfl ?_
    refine jj_bipush hX dX7_lineAt_43 cb_6 45 rfl ?_
    refine kmw_refuse hX hK hD q1702 (Nat.le_of_ble_eq_true rfl) (Nat.le_of_ble_eq_true rfl) (Nat.zero_le _) (Nat.zero_le _) (Nat.le_of_ble_eq_true rfl) dX7_lineAt_45 48 rfl h (fun r45 u45 h => ?_)
    exact jj_reti (post := Post) (u := u45) hX dX7_lineAt_48 (Nat.le_refl 0) (Nat.le_refl 0) jm_hB h
  · have h := h.2 c5
    refine jj_iload_n hX dX7_lineAt_8 2 rfl 9 rfl ?_
    refine jj_if_lt hX dX7_lineAt_9 42 12 (by decide) rfl (fun c9 => ?_) (fun c9 => ?_)
    · have h := h.1 c9
      refine jj_aload_n hX dX7_lineAt_42 0 rfl 43 rfl ?_
      refine jj_bipush hX dX7_lineAt_43 cb_6 45 rfl ?_
      refine kmw_refuse hX hK hD q1702 (Nat.le_of_ble_eq_true rfl) (Nat.le_of_ble_eq_true rfl) (Nat.zero_le _) (Nat.zero_le _) (Nat.le_of_ble_eq_true rfl) dX7_lineAt_45 48 rfl h (fun r45 u45 h => ?_)
      exact jj_reti (post := Post) (u := u45) hX dX7_lineAt_48 (Nat.le_refl 0) (Nat.le_refl 0) jm_hB h
    · have h := h.2 c9
      refine jj_iload_n hX dX7_lineAt_12 2 rfl 13 rfl ?_
      refine jt_24 hX hK dX7_lineAt_13 0 rfl dX7_lineAt_14 q1508 17 rfl rfl ?_
      refine jj_iload_n hX dX7_lineAt_17 1 rfl 18 rfl ?_
      obtain ⟨hi18, h⟩ := h
      refine jr_9 hX hK _ rfl hi18 dX7_lineAt_18 19 rfl ?_
      refine jj_icmp_ge hX dX7_lineAt_19 42 22 (by decide) rfl (fun c19 => ?_) (fun c19 => ?_)
      · have h := h.1 c19
        refine jj_aload_n hX dX7_lineAt_42 0 rfl 43 rfl ?_
        refine jj_bipush hX dX7_lineAt_43 cb_6 45 rfl ?_
        refine kmw_refuse hX hK hD q1702 (Nat.le_of_ble_eq_true rfl) (Nat.le_of_ble_eq_true rfl) (Nat.zero_le _) (Nat.zero_le _) (Nat.le_of_ble_eq_true rfl) dX7_lineAt_45 48 rfl h (fun r45 u45 h => ?_)
        exact jj_reti (post := Post) (u := u45) hX dX7_lineAt_48 (Nat.le_refl 0) (Nat.le_refl 0) jm_hB h
      · have h := h.2 c19
        refine jj_aload_n hX dX7_lineAt_22 0 rfl 23 rfl ?_
        refine jt_22 hX hK dX7_lineAt_23 0 rfl dX7_lineAt_24 q1506 27 rfl rfl ?_
        refine jt_23 hX hK dX7_lineAt_27 0 rfl dX7_lineAt_28 q1507 31 rfl rfl ?_
        refine jj_iload_n hX dX7_lineAt_31 1 rfl 32 rfl ?_
        obtain ⟨hi32, h⟩ := h
        refine jr_8 hX hK _ rfl hi32 dX7_lineAt_32 33 rfl ?_
        refine jj_iload_n hX dX7_lineAt_33 2 rfl 34 rfl ?_
        refine jj_iadd hX dX7_lineAt_34 35 rfl ?_
        obtain ⟨hi35, h⟩ := h
        refine jr_7 hX hK _ rfl hi35 dX7_lineAt_35 36 rfl ?_
        refine kmw_gives hX hK hD q1752 (Nat.le_of_ble_eq_true rfl) (Nat.le_of_ble_eq_true rfl) (Nat.zero_le _) (Nat.zero_le _) (Nat.le_of_ble_eq_true rfl) dX7_lineAt_36 39 rfl h (fun r36 u36 h => ?_)
        refine jj_goto hX dX7_lineAt_39 48 (by decide) ?_
        exact jj_reti (post := Post) (u := u36) hX dX7_lineAt_48 (Nat.le_refl 0) (Nat.le_refl 0) jm_hB h
theorem hd_mw_lineAt : yX7_lineAt.cls = RX7 ∧ yX7_lineAt.cls ≠ "java/lang/invoke/MethodHandle" ∧ yX7_lineAt.cls ≠ "java/lang/invoke/VarHandle" ∧ (parseMethodDescriptor yX7_lineAt.desc).map (fun d => d.parameters.length) = some 2 := by decide +kernel
theorem kmw_lineAt {X : JC} {Q : State → Prop} {nL k n pc : Nat} {lv : List (Nat × Value)} {st : List Value} {own : String} {cc : ByteArray} {ret : Option FieldType} {F LL mc ms ix : Nat} {D : va_G} {dA ad : Nat → Nat} {x1 : Int32} {x2 : Int32} {u : MS} {Post : Int32 → MS → Prop} (hX : JX X own cc nL ret F LL mc ms) (hK : KM D dA (jj_s X)) (hD : MD ad) (hlk : (Cond.methodLink own ix yX7_lineAt) ∈ lw_all) (hF : 3 + 1 ≤ F) (hL : 8 + (3 + 11) + 68 ≤ LL) (hk : k ≤ mc) (hk2 : n ≤ ms) (hw : (st.map fun v => v.category).sum ≤ 8) (d : decode cc pc = .ok (.invokevirtual ix, 3)) (q : Nat) (hq : pc + 3 = q) (h : mw_lineAt x1 x2 u Post) (kk : ∀ (r : Int32) (u2 : MS), Post r u2 → JJ X (AM ad) Q nL (MW D dA ad u2) k n q lv (.int r :: st)) : JJ X (AM ad) Q nL (MW D dA ad u) k n pc lv (.int x2 :: .int x1 :: .ref (ad 0) :: st) :=
  jm_calli (na := 2) (As := [.int x1, .int x2]) hX hK (mmw_lineAt (jj_l X) D dA ad hD x1 x2 u Post h) hlk q1905 q1906 q129 q1907 hd_mw_lineAt rfl rfl hw hF hL hk hk2 d q hq kk
def mw_onPage_B28 (Post : Int32 → MS → Prop) (u : MS) : Prop :=
  mw_refuse (1 : Int32) u (fun r30 u30 =>
    Post r30 u30)
def mw_onPage_B59 (Post : Int32 → MS → Prop) (x3 : Int32) (s0 : Int32) (u : MS) : Prop :=
  mw_isLine s0 u (fun r64 u64 =>
    (¬ r64 = 0 →
      vp_in s0 1300 ∧
      ((jm_i u64 9 s0.toNatClampNeg) ≤ x3 →
        mw_gives (0 : Int32) u64 (fun r107 u107 =>
          Post r107 u107)) ∧
      (¬ (jm_i u64 9 s0.toNatClampNeg) ≤ x3 →
        vp_in s0 1300 ∧
        vp_in ((jm_i u64 8 s0.toNatClampNeg) + x3) 2600 ∧
        mw_gives (jm_i u64 7 ((jm_i u64 8 s0.toNatClampNeg) + x3).toNatClampNeg) u64 (fun r107 u107 =>
          Post r107 u107))) ∧
    (r64 = 0 →
      mw_refuse (6 : Int32) u64 (fun r73 u73 =>
        Post r73 u73)))
/-- RaisedPressModel.onPage(III)I -/
def mw_onPage (x1 : Int32) (x2 : Int32) (x3 : Int32) (u : MS) (Post : Int32 → MS → Prop) : Prop :=
  (x3 < 0 →
    mw_onPage_B28 Post u) ∧
  (¬ x3 < 0 →
    ((jm_i u 1 4) ≤ x3 →
      mw_onPage_B28 Post u) ∧
    (¬ (jm_i u 1 4) ≤ x3 →
      (x2 < 0 →
        mw_onPage_B28 Post u) ∧
      (¬ x2 < 0 →
        (x2 < (jm_i u 1 5) →
          (x1 < 0 →
            mw_onPage_B59 Post x3 (-1 : Int32) u) ∧
          (¬ x1 < 0 →
            (x1 ≤ (2000 : Int32) →
              mw_onPage_B59 Post x3 ((x1 * (jm_i u 1 5)) + x2) u) ∧
            (¬ x1 ≤ (2000 : Int32) →
              mw_onPage_B59 Post x3 (-1 : Int32) u))) ∧
        (¬ x2 < (jm_i u 1 5) →
          mw_onPage_B28 Post u))))
set_option maxHeartbeats 4000000 in
set_option maxRecDepth 100000 in
theorem tmw_onPage_B28 {X : JC} {D : va_G} {dA ad : Nat → Nat} {Post : Int32 → MS → Prop} {u : MS} (hX : JX X yX7_onPage.cls cX7_onPage 5 (Option.some Jvm.ClassFile.FieldType.int) 3 68 0 0) (hK : KM D dA (jj_s X)) (hD : MD ad) (h : mw_onPage_B28 Post  u) : JJ X (AM ad) (jj_Q X (va_Qi Post (jm_B D dA ad) (AM ad)) 0 0 (AM ad)) 5 (MW D dA ad u) 0 0 28 [(0, .ref (ad 0))] [] := by
  unfold mw_onPage_B28 at h
  refine jj_aload_n hX dX7_onPage_28 0 rfl 29 rfl ?_
  refine jj_iconst hX dX7_onPage_29 ci_1 30 rfl ?_
  refine kmw_refuse hX hK hD q1702 (Nat.le_of_ble_eq_true rfl) (Nat.le_of_ble_eq_true rfl) (Nat.zero_le _) (Nat.zero_le _) (Nat.le_of_ble_eq_true rfl) dX7_onPage_30 33 rfl h (fun r30 u30 h => ?_)
  exact jj_reti (post := Post) (u := u30) hX dX7_onPage_33 (Nat.le_refl 0) (Nat.le_refl 0) jm_hB h
set_option maxHeartbeats 4000000 in
set_option maxRecDepth 100000 in
theorem tmw_onPage_B59 {X : JC} {D : va_G} {dA ad : Nat → Nat} {Post : Int32 → MS → Prop} {x3 : Int32} {s0 : Int32} {u : MS} (hX : JX X yX7_onPage.cls cX7_onPage 5 (Option.some Jvm.ClassFile.FieldType.int) 3 68 0 0) (hK : KM D dA (jj_s X)) (hD : MD ad) (h : mw_onPage_B59 Post x3 s0 u) : JJ X (AM ad) (jj_Q X (va_Qi Post (jm_B D dA ad) (AM ad)) 0 0 (AM ad)) 5 (MW D dA ad u) 0 0 59 [(0, .ref (ad 0)), (3, .int x3)] [.int s0] := by
  unfold mw_onPage_B59 at h
  refine jj_istore (lv2 := [(0, .ref (ad 0)), (3, .int x3), (4, .int s0)]) hX dX7_onPage_59 (Nat.le_of_ble_eq_true rfl) [1, 2, 0] rfl 61 rfl ?_
  refine jj_aload_n hX dX7_onPage_61 0 rfl 62 rfl ?_
  refine jj_iload hX dX7_onPage_62 2 rfl 64 rfl ?_
  refine kmw_isLine hX hK hD q1900 (Nat.le_of_ble_eq_true rfl) (Nat.le_of_ble_eq_true rfl) (Nat.zero_le _) (Nat.zero_le _) (Nat.le_of_ble_eq_true rfl) dX7_onPage_64 67 rfl h (fun r64 u64 hb64 h => ?_)
  refine jj_if_ne hX dX7_onPage_67 77 70 (by decide) rfl (fun c67 => ?_) (fun c67 => ?_)
  · have h := h.1 c67
    refine jj_aload_n hX dX7_onPage_77 0 rfl 78 rfl ?_
    refine jj_iload_n hX dX7_onPage_78 1 rfl 79 rfl ?_
    refine jt_24 hX hK dX7_onPage_79 0 rfl dX7_onPage_80 q1508 83 rfl rfl ?_
    refine jj_iload hX dX7_onPage_83 2 rfl 85 rfl ?_
    obtain ⟨hi85, h⟩ := h
    refine jr_9 hX hK _ rfl hi85 dX7_onPage_85 86 rfl ?_
    refine jj_icmp_ge hX dX7_onPage_86 106 89 (by decide) rfl (fun c86 => ?_) (fun c86 => ?_)
    · have h := h.1 c86
      refine jj_iconst hX dX7_onPage_106 ci_0 107 rfl ?_
      refine kmw_gives hX hK hD q1752 (Nat.le_of_ble_eq_true rfl) (Nat.le_of_ble_eq_true rfl) (Nat.zero_le _) (Nat.zero_le _) (Nat.le_of_ble_eq_true rfl) dX7_onPage_107 110 rfl h (fun r107 u107 h => ?_)
      exact jj_reti (post := Post) (u := u107) hX dX7_onPage_110 (Nat.le_refl 0) (Nat.le_refl 0) jm_hB h
    · have h := h.2 c86
      refine jt_22 hX hK dX7_onPage_89 0 rfl dX7_onPage_90 q1506 93 rfl rfl ?_
      refine jt_23 hX hK dX7_onPage_93 0 rfl dX7_onPage_94 q1507 97 rfl rfl ?_
      refine jj_iload hX dX7_onPage_97 2 rfl 99 rfl ?_
      obtain ⟨hi99, h⟩ := h
      refine jr_8 hX hK _ rfl hi99 dX7_onPage_99 100 rfl ?_
      refine jj_iload_n hX dX7_onPage_100 1 rfl 101 rfl ?_
      refine jj_iadd hX dX7_onPage_101 102 rfl ?_
      obtain ⟨hi102, h⟩ := h
      refine jr_7 hX hK _ rfl hi102 dX7_onPage_102 103 rfl ?_
      refine jj_goto hX dX7_onPage_103 107 (by decide) ?_
      refine kmw_gives hX hK hD q1752 (Nat.le_of_ble_eq_true rfl) (Nat.le_of_ble_eq_true rfl) (Nat.zero_le _) (Nat.zero_le _) (Nat.le_of_ble_eq_true rfl) dX7_onPage_107 110 rfl h (fun r107 u107 h => ?_)
      exact jj_reti (post := Post) (u := u107) hX dX7_onPage_110 (Nat.le_refl 0) (Nat.le_refl 0) jm_hB h
  · have h := h.2 c67
    refine jj_aload_n hX dX7_onPage_70 0 rfl 71 rfl ?_
    refine jj_bipush hX dX7_onPage_71 cb_6 73 rfl ?_
    refine kmw_refuse hX hK hD q1702 (Nat.le_of_ble_eq_true rfl) (Nat.le_of_ble_eq_true rfl) (Nat.zero_le _) (Nat.zero_le _) (Nat.le_of_ble_eq_true rfl) dX7_onPage_73 76 rfl h (fun r73 u73 h => ?_)
    exact jj_reti (post := Post) (u := u73) hX dX7_onPage_76 (Nat.le_refl 0) (Nat.le_refl 0) jm_hB h
set_option maxHeartbeats 4000000 in
set_option maxRecDepth 100000 in
theorem mmw_onPage (l : Launch) (D : va_G) (dA ad : Nat → Nat) (hD : MD ad) (x1 : Int32) (x2 : Int32) (x3 : Int32) (u : MS) (Post : Int32 → MS → Prop) (h : mw_onPage x1 x2 x3 u Post) : Met l yX7_onPage (ws_ yX7_onPage cX7_onPage 5 (Option.some Jvm.ClassFile.FieldType.int)) (jm_rm 3 68) (jm_Pc D dA ad u [.int x1, .int x2, .int x3]) (va_Qi Post (jm_B D dA ad) (AM ad)) 0 0 (AM ad) := by
  refine jm_start [.int x1, .int x2, .int x3] [(0, .ref (ad 0)), (1, .int x1), (2, .int x2), (3, .int x3)] (by decide) (Nat.le_of_ble_eq_true rfl) rfl (fun X hX hK => ?_)
  unfold mw_onPage at h
  refine jj_iload_n hX dX7_onPage_0 3 rfl 1 rfl ?_
  refine jj_if_lt hX dX7_onPage_1 28 4 (by decide) rfl (fun c1 => ?_) (fun c1 => ?_)
  · have h := h.1 c1
    refine jj_sub (lv2 := [(0, .ref (ad 0))]) [0] rfl ?_
    exact tmw_onPage_B28 hX hK hD h
  · have h := h.2 c1
    refine jj_iload_n hX dX7_onPage_4 3 rfl 5 rfl ?_
    refine jt_0 hX hK dX7_onPage_5 0 rfl dX7_onPage_6 q1484 9 rfl rfl ?_
    refine jj_iconst hX dX7_onPage_9 ci_4 10 rfl ?_
    refine jr_1 hX hK 4 kc_4 vi_1_4 dX7_onPage_10 11 rfl ?_
    refine jj_icmp_ge hX dX7_onPage_11 28 14 (by decide) rfl (fun c11 => ?_) (fun c11 => ?_)
    · have h := h.1 c11
      refine jj_sub (lv2 := [(0, .ref (ad 0))]) [0] rfl ?_
      exact tmw_onPage_B28 hX hK hD h
    · have h := h.2 c11
      refine jj_iload_n hX dX7_onPage_14 2 rfl 15 rfl ?_
      refine jj_if_lt hX dX7_onPage_15 28 18 (by decide) rfl (fun c15 => ?_) (fun c15 => ?_)
      · have h := h.1 c15
        refine jj_sub (lv2 := [(0, .ref (ad 0))]) [0] rfl ?_
        exact tmw_onPage_B28 hX hK hD h
      · have h := h.2 c15
        refine jj_iload_n hX dX7_onPage_18 2 rfl 19 rfl ?_
        refine jt_0 hX hK dX7_onPage_19 0 rfl dX7_onPage_20 q1484 23 rfl rfl ?_
        refine jj_iconst hX dX7_onPage_23 ci_5 24 rfl ?_
        refine jr_1 hX hK 5 kc_5 vi_1_5 dX7_onPage_24 25 rfl ?_
        refine jj_icmp_lt hX dX7_onPage_25 34 28 (by decide) rfl (fun c25 => ?_) (fun c25 => ?_)
        · have h := h.1 c25
          refine jj_iload_n hX dX7_onPage_34 1 rfl 35 rfl ?_
          refine jj_if_lt hX dX7_onPage_35 45 38 (by decide) rfl (fun c35 => ?_) (fun c35 => ?_)
          · have h := h.1 c35
            refine jj_iconst hX dX7_onPage_45 ci_m1 46 rfl ?_
            refine jj_goto hX dX7_onPage_46 59 (by decide) ?_
            refine jj_sub (lv2 := [(0, .ref (ad 0)), (3, .int x3)]) [0, 3] rfl ?_
            exact tmw_onPage_B59 hX hK hD h
          · have h := h.2 c35
            refine jj_iload_n hX dX7_onPage_38 1 rfl 39 rfl ?_
            refine jj_sipush hX dX7_onPage_39 cs_2000 42 rfl ?_
            refine jj_icmp_le hX dX7_onPage_42 49 45 (by decide) rfl (fun c42 => ?_) (fun c42 => ?_)
            · have h := h.1 c42
              refine jj_iload_n hX dX7_onPage_49 1 rfl 50 rfl ?_
              refine jt_0 hX hK dX7_onPage_50 0 rfl dX7_onPage_51 q1484 54 rfl rfl ?_
              refine jj_iconst hX dX7_onPage_54 ci_5 55 rfl ?_
              refine jr_1 hX hK 5 kc_5 vi_1_5 dX7_onPage_55 56 rfl ?_
              refine jj_imul hX dX7_onPage_56 57 rfl ?_
              refine jj_iload_n hX dX7_onPage_57 2 rfl 58 rfl ?_
              refine jj_iadd hX dX7_onPage_58 59 rfl ?_
              refine jj_sub (lv2 := [(0, .ref (ad 0)), (3, .int x3)]) [0, 3] rfl ?_
              exact tmw_onPage_B59 hX hK hD h
            · have h := h.2 c42
              refine jj_iconst hX dX7_onPage_45 ci_m1 46 rfl ?_
              refine jj_goto hX dX7_onPage_46 59 (by decide) ?_
              refine jj_sub (lv2 := [(0, .ref (ad 0)), (3, .int x3)]) [0, 3] rfl ?_
              exact tmw_onPage_B59 hX hK hD h
        · have h := h.2 c25
          refine jj_sub (lv2 := [(0, .ref (ad 0))]) [0] rfl ?_
          exact tmw_onPage_B28 hX hK hD h
theorem hd_mw_onPage : yX7_onPage.cls = RX7 ∧ yX7_onPage.cls ≠ "java/lang/invoke/MethodHandle" ∧ yX7_onPage.cls ≠ "java/lang/invoke/VarHandle" ∧ (parseMethodDescriptor yX7_onPage.desc).map (fun d => d.parameters.length) = some 3 := by decide +kernel
theorem kmw_onPage {X : JC} {Q : State → Prop} {nL k n pc : Nat} {lv : List (Nat × Value)} {st : List Value} {own : String} {cc : ByteArray} {ret : Option FieldType} {F LL mc ms ix : Nat} {D : va_G} {dA ad : Nat → Nat} {x1 : Int32} {x2 : Int32} {x3 : Int32} {u : MS} {Post : Int32 → MS → Prop} (hX : JX X own cc nL ret F LL mc ms) (hK : KM D dA (jj_s X)) (hD : MD ad) (hlk : (Cond.methodLink own ix yX7_onPage) ∈ lw_all) (hF : 3 + 1 ≤ F) (hL : 8 + (5 + 11) + 68 ≤ LL) (hk : k ≤ mc) (hk2 : n ≤ ms) (hw : (st.map fun v => v.category).sum ≤ 8) (d : decode cc pc = .ok (.invokevirtual ix, 3)) (q : Nat) (hq : pc + 3 = q) (h : mw_onPage x1 x2 x3 u Post) (kk : ∀ (r : Int32) (u2 : MS), Post r u2 → JJ X (AM ad) Q nL (MW D dA ad u2) k n q lv (.int r :: st)) : JJ X (AM ad) Q nL (MW D dA ad u) k n pc lv (.int x3 :: .int x2 :: .int x1 :: .ref (ad 0) :: st) :=
  jm_calli (na := 3) (As := [.int x1, .int x2, .int x3]) hX hK (mmw_onPage (jj_l X) D dA ad hD x1 x2 x3 u Post h) hlk q1909 q1910 q129 q1911 hd_mw_onPage rfl rfl hw hF hL hk hk2 d q hq kk
/-- RaisedPressModel.hyphens()I -/
def mw_hyphens (u : MS) (Post : Int32 → MS → Prop) : Prop :=
  mw_isSet u (fun r1 u1 =>
    (¬ r1 = 0 →
      mw_laysLines u1 (fun u15 =>
        mw_gives (jm_i u15 0 29) u15 (fun r23 u23 =>
          Post r23 u23))) ∧
    (r1 = 0 →
      mw_refuse (6 : Int32) u1 (fun r10 u10 =>
        Post r10 u10)))
set_option maxHeartbeats 4000000 in
set_option maxRecDepth 100000 in
theorem mmw_hyphens (l : Launch) (D : va_G) (dA ad : Nat → Nat) (hD : MD ad) (u : MS) (Post : Int32 → MS → Prop) (h : mw_hyphens  u Post) : Met l yX7_hyphens (ws_ yX7_hyphens cX7_hyphens 1 (Option.some Jvm.ClassFile.FieldType.int)) (jm_rm 2 47) (jm_Pc D dA ad u []) (va_Qi Post (jm_B D dA ad) (AM ad)) 0 0 (AM ad) := by
  refine jm_start [] [(0, .ref (ad 0))] (by decide) (Nat.le_of_ble_eq_true rfl) rfl (fun X hX hK => ?_)
  unfold mw_hyphens at h
  refine jj_aload_n hX dX7_hyphens_0 0 rfl 1 rfl ?_
  refine kmw_isSet hX hK hD q1864 (Nat.le_of_ble_eq_true rfl) (Nat.le_of_ble_eq_true rfl) (Nat.zero_le _) (Nat.zero_le _) (Nat.le_of_ble_eq_true rfl) dX7_hyphens_1 4 rfl h (fun r1 u1 hb1 h => ?_)
  refine jj_if_ne hX dX7_hyphens_4 14 7 (by decide) rfl (fun c4 => ?_) (fun c4 => ?_)
  · have h := h.1 c4
    refine jj_aload_n hX dX7_hyphens_14 0 rfl 15 rfl ?_
    refine kmw_laysLines hX hK hD q1876 (Nat.le_of_ble_eq_true rfl) (Nat.le_of_ble_eq_true rfl) (Nat.zero_le _) (Nat.zero_le _) (Nat.le_of_ble_eq_true rfl) dX7_hyphens_15 18 rfl h (fun u15 h => ?_)
    refine jj_aload_n hX dX7_hyphens_18 0 rfl 19 rfl ?_
    refine jt_29 hX hK dX7_hyphens_19 0 rfl dX7_hyphens_20 q1513 23 rfl rfl ?_
    refine kmw_gives hX hK hD q1752 (Nat.le_of_ble_eq_true rfl) (Nat.le_of_ble_eq_true rfl) (Nat.zero_le _) (Nat.zero_le _) (Nat.le_of_ble_eq_true rfl) dX7_hyphens_23 26 rfl h (fun r23 u23 h => ?_)
    exact jj_reti (post := Post) (u := u23) hX dX7_hyphens_26 (Nat.le_refl 0) (Nat.le_refl 0) jm_hB h
  · have h := h.2 c4
    refine jj_aload_n hX dX7_hyphens_7 0 rfl 8 rfl ?_
    refine jj_bipush hX dX7_hyphens_8 cb_6 10 rfl ?_
    refine kmw_refuse hX hK hD q1702 (Nat.le_of_ble_eq_true rfl) (Nat.le_of_ble_eq_true rfl) (Nat.zero_le _) (Nat.zero_le _) (Nat.le_of_ble_eq_true rfl) dX7_hyphens_10 13 rfl h (fun r10 u10 h => ?_)
    exact jj_reti (post := Post) (u := u10) hX dX7_hyphens_13 (Nat.le_refl 0) (Nat.le_refl 0) jm_hB h
theorem hd_mw_hyphens : yX7_hyphens.cls = RX7 ∧ yX7_hyphens.cls ≠ "java/lang/invoke/MethodHandle" ∧ yX7_hyphens.cls ≠ "java/lang/invoke/VarHandle" ∧ (parseMethodDescriptor yX7_hyphens.desc).map (fun d => d.parameters.length) = some 0 := by decide +kernel
theorem kmw_hyphens {X : JC} {Q : State → Prop} {nL k n pc : Nat} {lv : List (Nat × Value)} {st : List Value} {own : String} {cc : ByteArray} {ret : Option FieldType} {F LL mc ms ix : Nat} {D : va_G} {dA ad : Nat → Nat} {u : MS} {Post : Int32 → MS → Prop} (hX : JX X own cc nL ret F LL mc ms) (hK : KM D dA (jj_s X)) (hD : MD ad) (hlk : (Cond.methodLink own ix yX7_hyphens) ∈ lw_all) (hF : 2 + 1 ≤ F) (hL : 8 + (1 + 11) + 47 ≤ LL) (hk : k ≤ mc) (hk2 : n ≤ ms) (hw : (st.map fun v => v.category).sum ≤ 8) (d : decode cc pc = .ok (.invokevirtual ix, 3)) (q : Nat) (hq : pc + 3 = q) (h : mw_hyphens  u Post) (kk : ∀ (r : Int32) (u2 : MS), Post r u2 → JJ X (AM ad) Q nL (MW D dA ad u2) k n q lv (.int r :: st)) : JJ X (AM ad) Q nL (MW D dA ad u) k n pc lv (.ref (ad 0) :: st) :=
  jm_calli (na := 0) (As := []) hX hK (mmw_hyphens (jj_l X) D dA ad hD  u Post h) hlk q1913 q1914 q129 q1915 hd_mw_hyphens rfl rfl hw hF hL hk hk2 d q hq kk
/-- RaisedPressModel.used(I)I -/
def mw_used (x1 : Int32) (u : MS) (Post : Int32 → MS → Prop) : Prop :=
  mw_isRule x1 u (fun r2 u2 =>
    (¬ r2 = 0 →
      mw_isSet u2 (fun r17 u17 =>
        (r17 = 0 →
          mw_refuse (6 : Int32) u17 (fun r43 u43 =>
            Post r43 u43)) ∧
        (¬ r17 = 0 →
          vp_in ((2010 : Int32) + x1) 19800 ∧
          mw_gives (jm_i u17 1 ((2010 : Int32) + x1).toNatClampNeg) u17 (fun r34 u34 =>
            Post r34 u34)))) ∧
    (r2 = 0 →
      mw_refuse (1 : Int32) u2 (fun r10 u10 =>
        Post r10 u10)))
set_option maxHeartbeats 4000000 in
set_option maxRecDepth 100000 in
theorem mmw_used (l : Launch) (D : va_G) (dA ad : Nat → Nat) (hD : MD ad) (x1 : Int32) (u : MS) (Post : Int32 → MS → Prop) (h : mw_used x1 u Post) : Met l yX7_used (ws_ yX7_used cX7_used 2 (Option.some Jvm.ClassFile.FieldType.int)) (jm_rm 1 21) (jm_Pc D dA ad u [.int x1]) (va_Qi Post (jm_B D dA ad) (AM ad)) 0 0 (AM ad) := by
  refine jm_start [.int x1] [(0, .ref (ad 0)), (1, .int x1)] (by decide) (Nat.le_of_ble_eq_true rfl) rfl (fun X hX hK => ?_)
  unfold mw_used at h
  refine jj_aload_n hX dX7_used_0 0 rfl 1 rfl ?_
  refine jj_iload_n hX dX7_used_1 1 rfl 2 rfl ?_
  refine kmw_isRule hX hK hD q1836 (Nat.le_of_ble_eq_true rfl) (Nat.le_of_ble_eq_true rfl) (Nat.zero_le _) (Nat.zero_le _) (Nat.le_of_ble_eq_true rfl) dX7_used_2 5 rfl h (fun r2 u2 hb2 h => ?_)
  refine jj_if_ne hX dX7_used_5 16 8 (by decide) rfl (fun c5 => ?_) (fun c5 => ?_)
  · have h := h.1 c5
    refine jj_aload_n hX dX7_used_16 0 rfl 17 rfl ?_
    refine kmw_isSet hX hK hD q1864 (Nat.le_of_ble_eq_true rfl) (Nat.le_of_ble_eq_true rfl) (Nat.zero_le _) (Nat.zero_le _) (Nat.le_of_ble_eq_true rfl) dX7_used_17 20 rfl h (fun r17 u17 hb17 h => ?_)
    refine jj_if_eq hX dX7_used_20 40 23 (by decide) rfl (fun c20 => ?_) (fun c20 => ?_)
    · have h := h.1 c20
      refine jj_aload_n hX dX7_used_40 0 rfl 41 rfl ?_
      refine jj_bipush hX dX7_used_41 cb_6 43 rfl ?_
      refine kmw_refuse hX hK hD q1702 (Nat.le_of_ble_eq_true rfl) (Nat.le_of_ble_eq_true rfl) (Nat.zero_le _) (Nat.zero_le _) (Nat.le_of_ble_eq_true rfl) dX7_used_43 46 rfl h (fun r43 u43 h => ?_)
      exact jj_reti (post := Post) (u := u43) hX dX7_used_46 (Nat.le_refl 0) (Nat.le_refl 0) jm_hB h
    · have h := h.2 c20
      refine jj_aload_n hX dX7_used_23 0 rfl 24 rfl ?_
      refine jt_0 hX hK dX7_used_24 0 rfl dX7_used_25 q1484 28 rfl rfl ?_
      refine jj_sipush hX dX7_used_28 cs_2010 31 rfl ?_
      refine jj_iload_n hX dX7_used_31 1 rfl 32 rfl ?_
      refine jj_iadd hX dX7_used_32 33 rfl ?_
      obtain ⟨hi33, h⟩ := h
      refine jr_1 hX hK _ rfl hi33 dX7_used_33 34 rfl ?_
      refine kmw_gives hX hK hD q1752 (Nat.le_of_ble_eq_true rfl) (Nat.le_of_ble_eq_true rfl) (Nat.zero_le _) (Nat.zero_le _) (Nat.le_of_ble_eq_true rfl) dX7_used_34 37 rfl h (fun r34 u34 h => ?_)
      refine jj_goto hX dX7_used_37 46 (by decide) ?_
      exact jj_reti (post := Post) (u := u34) hX dX7_used_46 (Nat.le_refl 0) (Nat.le_refl 0) jm_hB h
  · have h := h.2 c5
    refine jj_aload_n hX dX7_used_8 0 rfl 9 rfl ?_
    refine jj_iconst hX dX7_used_9 ci_1 10 rfl ?_
    refine kmw_refuse hX hK hD q1702 (Nat.le_of_ble_eq_true rfl) (Nat.le_of_ble_eq_true rfl) (Nat.zero_le _) (Nat.zero_le _) (Nat.le_of_ble_eq_true rfl) dX7_used_10 13 rfl h (fun r10 u10 h => ?_)
    refine jj_goto hX dX7_used_13 46 (by decide) ?_
    exact jj_reti (post := Post) (u := u10) hX dX7_used_46 (Nat.le_refl 0) (Nat.le_refl 0) jm_hB h
theorem hd_mw_used : yX7_used.cls = RX7 ∧ yX7_used.cls ≠ "java/lang/invoke/MethodHandle" ∧ yX7_used.cls ≠ "java/lang/invoke/VarHandle" ∧ (parseMethodDescriptor yX7_used.desc).map (fun d => d.parameters.length) = some 1 := by decide +kernel
theorem kmw_used {X : JC} {Q : State → Prop} {nL k n pc : Nat} {lv : List (Nat × Value)} {st : List Value} {own : String} {cc : ByteArray} {ret : Option FieldType} {F LL mc ms ix : Nat} {D : va_G} {dA ad : Nat → Nat} {x1 : Int32} {u : MS} {Post : Int32 → MS → Prop} (hX : JX X own cc nL ret F LL mc ms) (hK : KM D dA (jj_s X)) (hD : MD ad) (hlk : (Cond.methodLink own ix yX7_used) ∈ lw_all) (hF : 1 + 1 ≤ F) (hL : 8 + (2 + 11) + 21 ≤ LL) (hk : k ≤ mc) (hk2 : n ≤ ms) (hw : (st.map fun v => v.category).sum ≤ 8) (d : decode cc pc = .ok (.invokevirtual ix, 3)) (q : Nat) (hq : pc + 3 = q) (h : mw_used x1 u Post) (kk : ∀ (r : Int32) (u2 : MS), Post r u2 → JJ X (AM ad) Q nL (MW D dA ad u2) k n q lv (.int r :: st)) : JJ X (AM ad) Q nL (MW D dA ad u) k n pc lv (.int x1 :: .ref (ad 0) :: st) :=
  jm_calli (na := 1) (As := [.int x1]) hX hK (mmw_used (jj_l X) D dA ad hD x1 u Post h) hlk q1917 q1918 q129 q1919 hd_mw_used rfl rfl hw hF hL hk hk2 d q hq kk
def mw_useless_L18_S (Post : Int32 → MS → Prop) (R : Int32 → Int32 → MS → Prop) (x1 : Int32) (x2 : Int32) (u : MS) : Prop :=
  ((jm_i u 1 0) ≤ x2 →
    mw_gives x1 u (fun r73 u73 =>
      Post r73 u73)) ∧
  (¬ (jm_i u 1 0) ≤ x2 →
    mw_isOut (jm_i u 1 6) x2 (fun r37 =>
      (¬ r37 = 0 →
        ∀ v64 : Int32, v64 = (x1 ||| (0 : Int32)) →
        ∀ v65 : Int32, v65 = x2 + (1 : Int32) →
        R v64 v65 u) ∧
      (r37 = 0 →
        vp_in ((2010 : Int32) + x2) 19800 ∧
        (¬ (jm_i u 1 ((2010 : Int32) + x2).toNatClampNeg) = 0 →
          ∀ v64 : Int32, v64 = (x1 ||| (0 : Int32)) →
          ∀ v65 : Int32, v65 = x2 + (1 : Int32) →
          R v64 v65 u) ∧
        ((jm_i u 1 ((2010 : Int32) + x2).toNatClampNeg) = 0 →
          ∀ v64 : Int32, v64 = (x1 ||| ((1 : Int32) <<< (x2 &&& 31))) →
          ∀ v65 : Int32, v65 = x2 + (1 : Int32) →
          R v64 v65 u))))
def mw_useless_L18 (Post : Int32 → MS → Prop) : Nat → Int32 → Int32 → MS → Prop
  | 0 => fun _ _ _ => False
  | n + 1 => fun x1 x2 u => mw_useless_L18_S Post (mw_useless_L18 Post n) x1 x2 u
/-- RaisedPressModel.useless()I -/
def mw_useless (u : MS) (Post : Int32 → MS → Prop) : Prop :=
  mw_isSet u (fun r1 u1 =>
    (¬ r1 = 0 →
      ∃ n, mw_useless_L18 Post n (0 : Int32) (0 : Int32) u1) ∧
    (r1 = 0 →
      mw_refuse (6 : Int32) u1 (fun r10 u10 =>
        Post r10 u10)))
set_option maxHeartbeats 4000000 in
set_option maxRecDepth 100000 in
theorem tmw_useless_L18 {X : JC} {D : va_G} {dA ad : Nat → Nat} {Post : Int32 → MS → Prop} (hX : JX X yX7_useless.cls cX7_useless 3 (Option.some Jvm.ClassFile.FieldType.int) 1 21 0 0) (hK : KM D dA (jj_s X)) (hD : MD ad) : ∀ (n : Nat) (x1 : Int32) (x2 : Int32) (u : MS), mw_useless_L18 Post n x1 x2 u → JJ X (AM ad) (jj_Q X (va_Qi Post (jm_B D dA ad) (AM ad)) 0 0 (AM ad)) 3 (MW D dA ad u) 0 0 18 [(0, .ref (ad 0)), (1, .int x1), (2, .int x2)] [] := by
  intro n
  induction n with
  | zero =>
    intro x1 x2 u h
    exact h.elim
  | succ n ih =>
    intro x1 x2 u h
    have h : mw_useless_L18_S Post (mw_useless_L18 Post n) x1 x2 u := h
    unfold mw_useless_L18_S at h
    refine jj_iload_n hX dX7_useless_18 2 rfl 19 rfl ?_
    refine jt_0 hX hK dX7_useless_19 0 rfl dX7_useless_20 q1484 23 rfl rfl ?_
    refine jj_iconst hX dX7_useless_23 ci_0 24 rfl ?_
    refine jr_1 hX hK 0 kc_0 vi_1_0 dX7_useless_24 25 rfl ?_
    refine jj_icmp_ge hX dX7_useless_25 71 28 (by decide) rfl (fun c25 => ?_) (fun c25 => ?_)
    · have h := h.1 c25
      refine jj_aload_n hX dX7_useless_71 0 rfl 72 rfl ?_
      refine jj_iload_n hX dX7_useless_72 1 rfl 73 rfl ?_
      refine kmw_gives hX hK hD q1752 (Nat.le_of_ble_eq_true rfl) (Nat.le_of_ble_eq_true rfl) (Nat.zero_le _) (Nat.zero_le _) (Nat.le_of_ble_eq_true rfl) dX7_useless_73 76 rfl h (fun r73 u73 h => ?_)
      exact jj_reti (post := Post) (u := u73) hX dX7_useless_76 (Nat.le_refl 0) (Nat.le_refl 0) jm_hB h
    · have h := h.2 c25
      refine jj_iload_n hX dX7_useless_28 1 rfl 29 rfl ?_
      refine jt_0 hX hK dX7_useless_29 0 rfl dX7_useless_30 q1484 33 rfl rfl ?_
      refine jj_bipush hX dX7_useless_33 cb_6 35 rfl ?_
      refine jr_1 hX hK 6 kc_6 vi_1_6 dX7_useless_35 36 rfl ?_
      refine jj_iload_n hX dX7_useless_36 2 rfl 37 rfl ?_
      refine kmw_isOut hX MW.keeps q1800 (Nat.le_of_ble_eq_true rfl) (Nat.le_of_ble_eq_true rfl) (Nat.zero_le _) (Nat.zero_le _) (Nat.le_of_ble_eq_true rfl) dX7_useless_37 40 rfl h (fun r37 hb37 h => ?_)
      refine jj_if_ne hX dX7_useless_40 62 43 (by decide) rfl (fun c40 => ?_) (fun c40 => ?_)
      · have h := h.1 c40
        refine jj_iconst hX dX7_useless_62 ci_0 63 rfl ?_
        refine jj_ior hX dX7_useless_63 64 rfl ?_
        refine jj_topi (fun v64 e64 => ?_)
        have h := h v64 e64
        refine jj_istore_n (lv2 := [(0, .ref (ad 0)), (1, .int v64), (2, .int x2)]) hX dX7_useless_64 (Nat.le_of_ble_eq_true rfl) [1, 0, 2] rfl 65 rfl ?_
        obtain ⟨v65, e65⟩ : ∃ y : Int32, y = x2 + (1 : Int32) := ⟨_, rfl⟩
        have h := h v65 e65
        refine jj_iinc (v := v65) (lv2 := [(0, .ref (ad 0)), (1, .int v64), (2, .int v65)]) hX dX7_useless_65 2 rfl (by rw [e65, ci_1]) (Nat.le_of_ble_eq_true rfl) [1, 2, 0] rfl 68 rfl ?_
        refine jj_goto hX dX7_useless_68 18 (by decide) ?_
        exact ih _ _ _ h
      · have h := h.2 c40
        refine jt_0 hX hK dX7_useless_43 0 rfl dX7_useless_44 q1484 47 rfl rfl ?_
        refine jj_sipush hX dX7_useless_47 cs_2010 50 rfl ?_
        refine jj_iload_n hX dX7_useless_50 2 rfl 51 rfl ?_
        refine jj_iadd hX dX7_useless_51 52 rfl ?_
        obtain ⟨hi52, h⟩ := h
        refine jr_1 hX hK _ rfl hi52 dX7_useless_52 53 rfl ?_
        refine jj_if_ne hX dX7_useless_53 62 56 (by decide) rfl (fun c53 => ?_) (fun c53 => ?_)
        · have h := h.1 c53
          refine jj_iconst hX dX7_useless_62 ci_0 63 rfl ?_
          refine jj_ior hX dX7_useless_63 64 rfl ?_
          refine jj_topi (fun v64 e64 => ?_)
          have h := h v64 e64
          refine jj_istore_n (lv2 := [(0, .ref (ad 0)), (1, .int v64), (2, .int x2)]) hX dX7_useless_64 (Nat.le_of_ble_eq_true rfl) [1, 0, 2] rfl 65 rfl ?_
          obtain ⟨v65, e65⟩ : ∃ y : Int32, y = x2 + (1 : Int32) := ⟨_, rfl⟩
          have h := h v65 e65
          refine jj_iinc (v := v65) (lv2 := [(0, .ref (ad 0)), (1, .int v64), (2, .int v65)]) hX dX7_useless_65 2 rfl (by rw [e65, ci_1]) (Nat.le_of_ble_eq_true rfl) [1, 2, 0] rfl 68 rfl ?_
          refine jj_goto hX dX7_useless_68 18 (by decide) ?_
          exact ih _ _ _ h
        · have h := h.2 c53
          refine jj_iconst hX dX7_useless_56 ci_1 57 rfl ?_
          refine jj_iload_n hX dX7_useless_57 2 rfl 58 rfl ?_
          refine jj_ishl hX dX7_useless_58 59 rfl ?_
          refine jj_goto hX dX7_useless_59 63 (by decide) ?_
          refine jj_ior hX dX7_useless_63 64 rfl ?_
          refine jj_topi (fun v64 e64 => ?_)
          have h := h v64 e64
          refine jj_istore_n (lv2 := [(0, .ref (ad 0)), (1, .int v64), (2, .int x2)]) hX dX7_useless_64 (Nat.le_of_ble_eq_true rfl) [1, 0, 2] rfl 65 rfl ?_
          obtain ⟨v65, e65⟩ : ∃ y : Int32, y = x2 + (1 : Int32) := ⟨_, rfl⟩
          have h := h v65 e65
          refine jj_iinc (v := v65) (lv2 := [(0, .ref (ad 0)), (1, .int v64), (2, .int v65)]) hX dX7_useless_65 2 rfl (by rw [e65, ci_1]) (Nat.le_of_ble_eq_true rfl) [1, 2, 0] rfl 68 rfl ?_
          refine jj_goto hX dX7_useless_68 18 (by decide) ?_
          exact ih _ _ _ h
set_option maxHeartbeats 4000000 in
set_option maxRecDepth 100000 in
theorem mmw_useless (l : Launch) (D : va_G) (dA ad : Nat → Nat) (hD : MD ad) (u : MS) (Post : Int32 → MS → Prop) (h : mw_useless  u Post) : Met l yX7_useless (ws_ yX7_useless cX7_useless 3 (Option.some Jvm.ClassFile.FieldType.int)) (jm_rm 1 21) (jm_Pc D dA ad u []) (va_Qi Post (jm_B D dA ad) (AM ad)) 0 0 (AM ad) := by
  refine jm_start [] [(0, .ref (ad 0))] (by decide) (Nat.le_of_ble_eq_true rfl) rfl (fun X hX hK => ?_)
  unfold mw_useless at h
  refine jj_aload_n hX dX7_useless_0 0 rfl 1 rfl ?_
  refine kmw_isSet hX hK hD q1864 (Nat.le_of_ble_eq_true rfl) (Nat.le_of_ble_eq_true rfl) (Nat.zero_le _) (Nat.zero_le _) (Nat.le_of_ble_eq_true rfl) dX7_useless_1 4 rfl h (fun r1 u1 hb1 h => ?_)
  refine jj_if_ne hX dX7_useless_4 14 7 (by decide) rfl (fun c4 => ?_) (fun c4 => ?_)
  · have h := h.1 c4
    refine jj_iconst hX dX7_useless_14 ci_0 15 rfl ?_
    refine jj_istore_n (lv2 := [(0, .ref (ad 0)), (1, .int (0 : Int32))]) hX dX7_useless_15 (Nat.le_of_ble_eq_true rfl) [1, 0] rfl 16 rfl ?_
    refine jj_iconst hX dX7_useless_16 ci_0 17 rfl ?_
    refine jj_istore_n (lv2 := [(0, .ref (ad 0)), (1, .int (0 : Int32)), (2, .int (0 : Int32))]) hX dX7_useless_17 (Nat.le_of_ble_eq_true rfl) [1, 2, 0] rfl 18 rfl ?_
    obtain ⟨n9, h⟩ := h
    exact tmw_useless_L18 hX hK hD n9 _ _ _ h
  · have h := h.2 c4
    refine jj_aload_n hX dX7_useless_7 0 rfl 8 rfl ?_
    refine jj_bipush hX dX7_useless_8 cb_6 10 rfl ?_
    refine kmw_refuse hX hK hD q1702 (Nat.le_of_ble_eq_true rfl) (Nat.le_of_ble_eq_true rfl) (Nat.zero_le _) (Nat.zero_le _) (Nat.le_of_ble_eq_true rfl) dX7_useless_10 13 rfl h (fun r10 u10 h => ?_)
    exact jj_reti (post := Post) (u := u10) hX dX7_useless_13 (Nat.le_refl 0) (Nat.le_refl 0) jm_hB h
theorem hd_mw_useless : yX7_useless.cls = RX7 ∧ yX7_useless.cls ≠ "java/lang/invoke/MethodHandle" ∧ yX7_useless.cls ≠ "java/lang/invoke/VarHandle" ∧ (parseMethodDescriptor yX7_useless.desc).map (fun d => d.parameters.length) = some 0 := by decide +kernel
theorem kmw_useless {X : JC} {Q : State → Prop} {nL k n pc : Nat} {lv : List (Nat × Value)} {st : List Value} {own : String} {cc : ByteArray} {ret : Option FieldType} {F LL mc ms ix : Nat} {D : va_G} {dA ad : Nat → Nat} {u : MS} {Post : Int32 → MS → Prop} (hX : JX X own cc nL ret F LL mc ms) (hK : KM D dA (jj_s X)) (hD : MD ad) (hlk : (Cond.methodLink own ix yX7_useless) ∈ lw_all) (hF : 1 + 1 ≤ F) (hL : 8 + (3 + 11) + 21 ≤ LL) (hk : k ≤ mc) (hk2 : n ≤ ms) (hw : (st.map fun v => v.category).sum ≤ 8) (d : decode cc pc = .ok (.invokevirtual ix, 3)) (q : Nat) (hq : pc + 3 = q) (h : mw_useless  u Post) (kk : ∀ (r : Int32) (u2 : MS), Post r u2 → JJ X (AM ad) Q nL (MW D dA ad u2) k n q lv (.int r :: st)) : JJ X (AM ad) Q nL (MW D dA ad u) k n pc lv (.ref (ad 0) :: st) :=
  jm_calli (na := 0) (As := []) hX hK (mmw_useless (jj_l X) D dA ad hD  u Post h) hlk q1921 q1922 q129 q1923 hd_mw_useless rfl rfl hw hF hL hk hk2 d q hq kk
def mw_bits_L4_S (Post : Int32 → Prop) (R : Int32 → Int32 → Prop) (x1 : Int32) (x2 : Int32) : Prop :=
  (x2 = 0 →
    Post x1) ∧
  (¬ x2 = 0 →
    ∀ v8 : Int32, v8 = x1 + (1 : Int32) →
    ∀ v16 : Int32, v16 = (x2 &&& (x2 - (1 : Int32))) →
    R v8 v16)
def mw_bits_L4 (Post : Int32 → Prop) : Nat → Int32 → Int32 → Prop
  | 0 => fun _ _ => False
  | n + 1 => fun x1 x2 => mw_bits_L4_S Post (mw_bits_L4 Post n) x1 x2
/-- RaisedPressModel.bits(I)I -/
def mw_bits (x0 : Int32) (Post : Int32 → Prop) : Prop :=
  ∃ n, mw_bits_L4 Post n (0 : Int32) x0
set_option maxHeartbeats 4000000 in
set_option maxRecDepth 100000 in
theorem tmw_bits_L4 {X : JC} {Post : Int32 → Prop} (hX : JX X yX7_bits.cls cX7_bits 3 (Option.some Jvm.ClassFile.FieldType.int) 0 0 0 0) : ∀ (n : Nat) (x1 : Int32) (x2 : Int32), mw_bits_L4 Post n x1 x2 → JJ X js_A (jj_Q X (va_Qi (fun r (_ : Unit) => Post r) js_B js_A) 0 0 js_A) 3 js_P 0 0 4 [(1, .int x1), (2, .int x2)] [] := by
  intro n
  induction n with
  | zero =>
    intro x1 x2 h
    exact h.elim
  | succ n ih =>
    intro x1 x2 h
    have h : mw_bits_L4_S Post (mw_bits_L4 Post n) x1 x2 := h
    unfold mw_bits_L4_S at h
    refine jj_iload_n hX dX7_bits_4 1 rfl 5 rfl ?_
    refine jj_if_eq hX dX7_bits_5 20 8 (by decide) rfl (fun c5 => ?_) (fun c5 => ?_)
    · have h := h.1 c5
      refine jj_iload_n hX dX7_bits_20 0 rfl 21 rfl ?_
      exact jj_reti (post := (fun r (_ : Unit) => Post r)) (u := ()) hX dX7_bits_21 (Nat.le_refl 0) (Nat.le_refl 0) js_hB h
    · have h := h.2 c5
      obtain ⟨v8, e8⟩ : ∃ y : Int32, y = x1 + (1 : Int32) := ⟨_, rfl⟩
      have h := h v8 e8
      refine jj_iinc (v := v8) (lv2 := [(1, .int v8), (2, .int x2)]) hX dX7_bits_8 0 rfl (by rw [e8, ci_1]) (Nat.le_of_ble_eq_true rfl) [0, 1] rfl 11 rfl ?_
      refine jj_iload_n hX dX7_bits_11 1 rfl 12 rfl ?_
      refine jj_iload_n hX dX7_bits_12 1 rfl 13 rfl ?_
      refine jj_iconst hX dX7_bits_13 ci_1 14 rfl ?_
      refine jj_isub hX dX7_bits_14 15 rfl ?_
      refine jj_iand hX dX7_bits_15 16 rfl ?_
      refine jj_topi (fun v16 e16 => ?_)
      have h := h v16 e16
      refine jj_istore_n (lv2 := [(1, .int v8), (2, .int v16)]) hX dX7_bits_16 (Nat.le_of_ble_eq_true rfl) [1, 0] rfl 17 rfl ?_
      refine jj_goto hX dX7_bits_17 4 (by decide) ?_
      exact ih _ _ h
set_option maxHeartbeats 4000000 in
set_option maxRecDepth 100000 in
theorem mmw_bits (l : Launch) (x0 : Int32) (Post : Int32 → Prop) (h : mw_bits x0 Post) : Met l yX7_bits (ws_ yX7_bits cX7_bits 3 (Option.some Jvm.ClassFile.FieldType.int)) (jm_rm 0 0) (js_Pc [.int x0]) (va_Qi (fun r (_ : Unit) => Post r) js_B js_A) 0 0 js_A := by
  refine js_start [.int x0] [(0, .int x0)] (by decide) (Nat.le_of_ble_eq_true rfl) rfl (fun X hX => ?_)
  unfold mw_bits at h
  refine jj_iconst hX dX7_bits_0 ci_0 1 rfl ?_
  refine jj_istore_n (lv2 := [(0, .int x0), (1, .int (0 : Int32))]) hX dX7_bits_1 (Nat.le_of_ble_eq_true rfl) [1, 0] rfl 2 rfl ?_
  refine jj_iload_n hX dX7_bits_2 0 rfl 3 rfl ?_
  refine jj_istore_n (lv2 := [(1, .int (0 : Int32)), (2, .int x0)]) hX dX7_bits_3 (Nat.le_of_ble_eq_true rfl) [2, 0] rfl 4 rfl ?_
  obtain ⟨n9, h⟩ := h
  exact tmw_bits_L4 hX n9 _ _ h
theorem hd_mw_bits : yX7_bits.cls ≠ "java/lang/invoke/MethodHandle" ∧ yX7_bits.cls ≠ "java/lang/invoke/VarHandle" ∧ (parseMethodDescriptor yX7_bits.desc).map (fun d => d.parameters.length) = some 1 := by decide +kernel
theorem kmw_bits {X : JC} {A : Nat → Prop} {Q : State → Prop} {P : Heap → Prop} {nL k n pc : Nat} {lv : List (Nat × Value)} {st : List Value} {own : String} {cc : ByteArray} {ret : Option FieldType} {F LL mc ms ix : Nat} {x0 : Int32} {Post : Int32 → Prop} (hX : JX X own cc nL ret F LL mc ms) (hKP : jj_Keeps P) (hlk : (Cond.methodLink own ix yX7_bits) ∈ lw_all) (hF : 0 + 1 ≤ F) (hL : 8 + (3 + 11) + 0 ≤ LL) (hk : k ≤ mc) (hk2 : n ≤ ms) (hw : (st.map fun v => v.category).sum ≤ 8) (d : decode cc pc = .ok (.invokestatic ix, 3)) (q : Nat) (hq : pc + 3 = q) (h : mw_bits x0 Post) (kk : ∀ r : Int32, Post r → JJ X A Q nL P k n q lv (.int r :: st)) : JJ X A Q nL P k n pc lv (.int x0 :: st) :=
  js_calli (na := 1) (As := [.int x0]) hX hKP (mmw_bits (jj_l X) x0 Post h) hlk q1929 q129 q1930 hd_mw_bits rfl rfl hw hF hL hk hk2 d q hq kk
def mw_dots_L18_S (Post : Int32 → MS → Prop) (R : Int32 → Int32 → MS → Prop) (x1 : Int32) (x2 : Int32) (u : MS) : Prop :=
  ((jm_i u 1 8) ≤ x2 →
    mw_gives x1 u (fun r53 u53 =>
      Post r53 u53)) ∧
  (¬ (jm_i u 1 8) ≤ x2 →
    vp_in ((600 : Int32) + x2) 19800 ∧
    mw_bits (jm_i u 1 ((600 : Int32) + x2).toNatClampNeg) (fun r40 =>
      ∀ v44 : Int32, v44 = (x1 + r40) →
      ∀ v45 : Int32, v45 = x2 + (1 : Int32) →
      R v44 v45 u))
def mw_dots_L18 (Post : Int32 → MS → Prop) : Nat → Int32 → Int32 → MS → Prop
  | 0 => fun _ _ _ => False
  | n + 1 => fun x1 x2 u => mw_dots_L18_S Post (mw_dots_L18 Post n) x1 x2 u
/-- RaisedPressModel.dots()I -/
def mw_dots (u : MS) (Post : Int32 → MS → Prop) : Prop :=
  mw_isSet u (fun r1 u1 =>
    (¬ r1 = 0 →
      ∃ n, mw_dots_L18 Post n (0 : Int32) (0 : Int32) u1) ∧
    (r1 = 0 →
      mw_refuse (6 : Int32) u1 (fun r10 u10 =>
        Post r10 u10)))
set_option maxHeartbeats 4000000 in
set_option maxRecDepth 100000 in
theorem tmw_dots_L18 {X : JC} {D : va_G} {dA ad : Nat → Nat} {Post : Int32 → MS → Prop} (hX : JX X yX7_dots.cls cX7_dots 3 (Option.some Jvm.ClassFile.FieldType.int) 1 22 0 0) (hK : KM D dA (jj_s X)) (hD : MD ad) : ∀ (n : Nat) (x1 : Int32) (x2 : Int32) (u : MS), mw_dots_L18 Post n x1 x2 u → JJ X (AM ad) (jj_Q X (va_Qi Post (jm_B D dA ad) (AM ad)) 0 0 (AM ad)) 3 (MW D dA ad u) 0 0 18 [(0, .ref (ad 0)), (1, .int x1), (2, .int x2)] [] := by
  intro n
  induction n with
  | zero =>
    intro x1 x2 u h
    exact h.elim
  | succ n ih =>
    intro x1 x2 u h
    have h : mw_dots_L18_S Post (mw_dots_L18 Post n) x1 x2 u := h
    unfold mw_dots_L18_S at h
    refine jj_iload_n hX dX7_dots_18 2 rfl 19 rfl ?_
    refine jt_0 hX hK dX7_dots_19 0 rfl dX7_dots_20 q1484 23 rfl rfl ?_
    refine jj_bipush hX dX7_dots_23 cb_8 25 rfl ?_
    refine jr_1 hX hK 8 kc_8 vi_1_8 dX7_dots_25 26 rfl ?_
    refine jj_icmp_ge hX dX7_dots_26 51 29 (by decide) rfl (fun c26 => ?_) (fun c26 => ?_)
    · have h := h.1 c26
      refine jj_aload_n hX dX7_dots_51 0 rfl 52 rfl ?_
      refine jj_iload_n hX dX7_dots_52 1 rfl 53 rfl ?_
      refine kmw_gives hX hK hD q1752 (Nat.le_of_ble_eq_true rfl) (Nat.le_of_ble_eq_true rfl) (Nat.zero_le _) (Nat.zero_le _) (Nat.le_of_ble_eq_true rfl) dX7_dots_53 56 rfl h (fun r53 u53 h => ?_)
      exact jj_reti (post := Post) (u := u53) hX dX7_dots_56 (Nat.le_refl 0) (Nat.le_refl 0) jm_hB h
    · have h := h.2 c26
      refine jj_iload_n hX dX7_dots_29 1 rfl 30 rfl ?_
      refine jt_0 hX hK dX7_dots_30 0 rfl dX7_dots_31 q1484 34 rfl rfl ?_
      refine jj_sipush hX dX7_dots_34 cs_600 37 rfl ?_
      refine jj_iload_n hX dX7_dots_37 2 rfl 38 rfl ?_
      refine jj_iadd hX dX7_dots_38 39 rfl ?_
      obtain ⟨hi39, h⟩ := h
      refine jr_1 hX hK _ rfl hi39 dX7_dots_39 40 rfl ?_
      refine kmw_bits hX MW.keeps q1928 (Nat.le_of_ble_eq_true rfl) (Nat.le_of_ble_eq_true rfl) (Nat.zero_le _) (Nat.zero_le _) (Nat.le_of_ble_eq_true rfl) dX7_dots_40 43 rfl h (fun r40 h => ?_)
      refine jj_iadd hX dX7_dots_43 44 rfl ?_
      refine jj_topi (fun v44 e44 => ?_)
      have h := h v44 e44
      refine jj_istore_n (lv2 := [(0, .ref (ad 0)), (1, .int v44), (2, .int x2)]) hX dX7_dots_44 (Nat.le_of_ble_eq_true rfl) [1, 0, 2] rfl 45 rfl ?_
      obtain ⟨v45, e45⟩ : ∃ y : Int32, y = x2 + (1 : Int32) := ⟨_, rfl⟩
      have h := h v45 e45
      refine jj_iinc (v := v45) (lv2 := [(0, .ref (ad 0)), (1, .int v44), (2, .int v45)]) hX dX7_dots_45 2 rfl (by rw [e45, ci_1]) (Nat.le_of_ble_eq_true rfl) [1, 2, 0] rfl 48 rfl ?_
      refine jj_goto hX dX7_dots_48 18 (by decide) ?_
      exact ih _ _ _ h
set_option maxHeartbeats 4000000 in
set_option maxRecDepth 100000 in
theorem mmw_dots (l : Launch) (D : va_G) (dA ad : Nat → Nat) (hD : MD ad) (u : MS) (Post : Int32 → MS → Prop) (h : mw_dots  u Post) : Met l yX7_dots (ws_ yX7_dots cX7_dots 3 (Option.some Jvm.ClassFile.FieldType.int)) (jm_rm 1 22) (jm_Pc D dA ad u []) (va_Qi Post (jm_B D dA ad) (AM ad)) 0 0 (AM ad) := by
  refine jm_start [] [(0, .ref (ad 0))] (by decide) (Nat.le_of_ble_eq_true rfl) rfl (fun X hX hK => ?_)
  unfold mw_dots at h
  refine jj_aload_n hX dX7_dots_0 0 rfl 1 rfl ?_
  refine kmw_isSet hX hK hD q1864 (Nat.le_of_ble_eq_true rfl) (Nat.le_of_ble_eq_true rfl) (Nat.zero_le _) (Nat.zero_le _) (Nat.le_of_ble_eq_true rfl) dX7_dots_1 4 rfl h (fun r1 u1 hb1 h => ?_)
  refine jj_if_ne hX dX7_dots_4 14 7 (by decide) rfl (fun c4 => ?_) (fun c4 => ?_)
  · have h := h.1 c4
    refine jj_iconst hX dX7_dots_14 ci_0 15 rfl ?_
    refine jj_istore_n (lv2 := [(0, .ref (ad 0)), (1, .int (0 : Int32))]) hX dX7_dots_15 (Nat.le_of_ble_eq_true rfl) [1, 0] rfl 16 rfl ?_
    refine jj_iconst hX dX7_dots_16 ci_0 17 rfl ?_
    refine jj_istore_n (lv2 := [(0, .ref (ad 0)), (1, .int (0 : Int32)), (2, .int (0 : Int32))]) hX dX7_dots_17 (Nat.le_of_ble_eq_true rfl) [1, 2, 0] rfl 18 rfl ?_
    obtain ⟨n9, h⟩ := h
    exact tmw_dots_L18 hX hK hD n9 _ _ _ h
  · have h := h.2 c4
    refine jj_aload_n hX dX7_dots_7 0 rfl 8 rfl ?_
    refine jj_bipush hX dX7_dots_8 cb_6 10 rfl ?_
    refine kmw_refuse hX hK hD q1702 (Nat.le_of_ble_eq_true rfl) (Nat.le_of_ble_eq_true rfl) (Nat.zero_le _) (Nat.zero_le _) (Nat.le_of_ble_eq_true rfl) dX7_dots_10 13 rfl h (fun r10 u10 h => ?_)
    exact jj_reti (post := Post) (u := u10) hX dX7_dots_13 (Nat.le_refl 0) (Nat.le_refl 0) jm_hB h
theorem hd_mw_dots : yX7_dots.cls = RX7 ∧ yX7_dots.cls ≠ "java/lang/invoke/MethodHandle" ∧ yX7_dots.cls ≠ "java/lang/invoke/VarHandle" ∧ (parseMethodDescriptor yX7_dots.desc).map (fun d => d.parameters.length) = some 0 := by decide +kernel
theorem kmw_dots {X : JC} {Q : State → Prop} {nL k n pc : Nat} {lv : List (Nat × Value)} {st : List Value} {own : String} {cc : ByteArray} {ret : Option FieldType} {F LL mc ms ix : Nat} {D : va_G} {dA ad : Nat → Nat} {u : MS} {Post : Int32 → MS → Prop} (hX : JX X own cc nL ret F LL mc ms) (hK : KM D dA (jj_s X)) (hD : MD ad) (hlk : (Cond.methodLink own ix yX7_dots) ∈ lw_all) (hF : 1 + 1 ≤ F) (hL : 8 + (3 + 11) + 22 ≤ LL) (hk : k ≤ mc) (hk2 : n ≤ ms) (hw : (st.map fun v => v.category).sum ≤ 8) (d : decode cc pc = .ok (.invokevirtual ix, 3)) (q : Nat) (hq : pc + 3 = q) (h : mw_dots  u Post) (kk : ∀ (r : Int32) (u2 : MS), Post r u2 → JJ X (AM ad) Q nL (MW D dA ad u2) k n q lv (.int r :: st)) : JJ X (AM ad) Q nL (MW D dA ad u) k n pc lv (.ref (ad 0) :: st) :=
  jm_calli (na := 0) (As := []) hX hK (mmw_dots (jj_l X) D dA ad hD  u Post h) hlk q1925 q1926 q129 q1927 hd_mw_dots rfl rfl hw hF hL hk hk2 d q hq kk
/-- RaisedPressModel.piece(II)I -/
def mw_piece (x1 : Int32) (x2 : Int32) (u : MS) (Post : Int32 → MS → Prop) : Prop :=
  (x2 < 0 →
    mw_refuse (1 : Int32) u (fun r11 u11 =>
      Post r11 u11)) ∧
  (¬ x2 < 0 →
    (x2 ≤ (1 : Int32) →
      mw_isSet u (fun r16 u16 =>
        (r16 = 0 →
          mw_refuse (6 : Int32) u16 (fun r40 u40 =>
            Post r40 u40)) ∧
        (¬ r16 = 0 →
          (x1 < 0 →
            mw_refuse (6 : Int32) u16 (fun r40 u40 =>
              Post r40 u40)) ∧
          (¬ x1 < 0 →
            (x1 < (jm_i u16 1 9) →
              mw_laysLines u16 (fun u45 =>
                (¬ x2 = 0 →
                  vp_in x1 160 ∧
                  mw_gives (jm_i u45 10 x1.toNatClampNeg) u45 (fun r67 u67 =>
                    Post r67 u67)) ∧
                (x2 = 0 →
                  mw_pieceMany x1 u45 (fun r55 u55 =>
                    mw_gives r55 u55 (fun r67 u67 =>
                      Post r67 u67))))) ∧
            (¬ x1 < (jm_i u16 1 9) →
              mw_refuse (6 : Int32) u16 (fun r40 u40 =>
                Post r40 u40)))))) ∧
    (¬ x2 ≤ (1 : Int32) →
      mw_refuse (1 : Int32) u (fun r11 u11 =>
        Post r11 u11)))
set_option maxHeartbeats 4000000 in
set_option maxRecDepth 100000 in
theorem mmw_piece (l : Launch) (D : va_G) (dA ad : Nat → Nat) (hD : MD ad) (x1 : Int32) (x2 : Int32) (u : MS) (Post : Int32 → MS → Prop) (h : mw_piece x1 x2 u Post) : Met l yX7_piece (ws_ yX7_piece cX7_piece 3 (Option.some Jvm.ClassFile.FieldType.int)) (jm_rm 2 47) (jm_Pc D dA ad u [.int x1, .int x2]) (va_Qi Post (jm_B D dA ad) (AM ad)) 0 0 (AM ad) := by
  refine jm_start [.int x1, .int x2] [(0, .ref (ad 0)), (1, .int x1), (2, .int x2)] (by decide) (Nat.le_of_ble_eq_true rfl) rfl (fun X hX hK => ?_)
  unfold mw_piece at h
  refine jj_iload_n hX dX7_piece_0 2 rfl 1 rfl ?_
  refine jj_if_lt hX dX7_piece_1 9 4 (by decide) rfl (fun c1 => ?_) (fun c1 => ?_)
  · have h := h.1 c1
    refine jj_aload_n hX dX7_piece_9 0 rfl 10 rfl ?_
    refine jj_iconst hX dX7_piece_10 ci_1 11 rfl ?_
    refine kmw_refuse hX hK hD q1702 (Nat.le_of_ble_eq_true rfl) (Nat.le_of_ble_eq_true rfl) (Nat.zero_le _) (Nat.zero_le _) (Nat.le_of_ble_eq_true rfl) dX7_piece_11 14 rfl h (fun r11 u11 h => ?_)
    exact jj_reti (post := Post) (u := u11) hX dX7_piece_14 (Nat.le_refl 0) (Nat.le_refl 0) jm_hB h
  · have h := h.2 c1
    refine jj_iload_n hX dX7_piece_4 2 rfl 5 rfl ?_
    refine jj_iconst hX dX7_piece_5 ci_1 6 rfl ?_
    refine jj_icmp_le hX dX7_piece_6 15 9 (by decide) rfl (fun c6 => ?_) (fun c6 => ?_)
    · have h := h.1 c6
      refine jj_aload_n hX dX7_piece_15 0 rfl 16 rfl ?_
      refine kmw_isSet hX hK hD q1864 (Nat.le_of_ble_eq_true rfl) (Nat.le_of_ble_eq_true rfl) (Nat.zero_le _) (Nat.zero_le _) (Nat.le_of_ble_eq_true rfl) dX7_piece_16 19 rfl h (fun r16 u16 hb16 h => ?_)
      refine jj_if_eq hX dX7_piece_19 37 22 (by decide) rfl (fun c19 => ?_) (fun c19 => ?_)
      · have h := h.1 c19
        refine jj_aload_n hX dX7_piece_37 0 rfl 38 rfl ?_
        refine jj_bipush hX dX7_piece_38 cb_6 40 rfl ?_
        refine kmw_refuse hX hK hD q1702 (Nat.le_of_ble_eq_true rfl) (Nat.le_of_ble_eq_true rfl) (Nat.zero_le _) (Nat.zero_le _) (Nat.le_of_ble_eq_true rfl) dX7_piece_40 43 rfl h (fun r40 u40 h => ?_)
        exact jj_reti (post := Post) (u := u40) hX dX7_piece_43 (Nat.le_refl 0) (Nat.le_refl 0) jm_hB h
      · have h := h.2 c19
        refine jj_iload_n hX dX7_piece_22 1 rfl 23 rfl ?_
        refine jj_if_lt hX dX7_piece_23 37 26 (by decide) rfl (fun c23 => ?_) (fun c23 => ?_)
        · have h := h.1 c23
          refine jj_aload_n hX dX7_piece_37 0 rfl 38 rfl ?_
          refine jj_bipush hX dX7_piece_38 cb_6 40 rfl ?_
          refine kmw_refuse hX hK hD q1702 (Nat.le_of_ble_eq_true rfl) (Nat.le_of_ble_eq_true rfl) (Nat.zero_le _) (Nat.zero_le _) (Nat.le_of_ble_eq_true rfl) dX7_piece_40 43 rfl h (fun r40 u40 h => ?_)
          exact jj_reti (post := Post) (u := u40) hX dX7_piece_43 (Nat.le_refl 0) (Nat.le_refl 0) jm_hB h
        · have h := h.2 c23
          refine jj_iload_n hX dX7_piece_26 1 rfl 27 rfl ?_
          refine jt_0 hX hK dX7_piece_27 0 rfl dX7_piece_28 q1484 31 rfl rfl ?_
          refine jj_bipush hX dX7_piece_31 cb_9 33 rfl ?_
          refine jr_1 hX hK 9 kc_9 vi_1_9 dX7_piece_33 34 rfl ?_
          refine jj_icmp_lt hX dX7_piece_34 44 37 (by decide) rfl (fun c34 => ?_) (fun c34 => ?_)
          · have h := h.1 c34
            refine jj_aload_n hX dX7_piece_44 0 rfl 45 rfl ?_
            refine kmw_laysLines hX hK hD q1876 (Nat.le_of_ble_eq_true rfl) (Nat.le_of_ble_eq_true rfl) (Nat.zero_le _) (Nat.zero_le _) (Nat.le_of_ble_eq_true rfl) dX7_piece_45 48 rfl h (fun u45 h => ?_)
            refine jj_aload_n hX dX7_piece_48 0 rfl 49 rfl ?_
            refine jj_iload_n hX dX7_piece_49 2 rfl 50 rfl ?_
            refine jj_if_ne hX dX7_piece_50 61 53 (by decide) rfl (fun c50 => ?_) (fun c50 => ?_)
            · have h := h.1 c50
              refine jt_25 hX hK dX7_piece_61 0 rfl dX7_piece_62 q1509 65 rfl rfl ?_
              refine jj_iload_n hX dX7_piece_65 1 rfl 66 rfl ?_
              obtain ⟨hi66, h⟩ := h
              refine jr_10 hX hK _ rfl hi66 dX7_piece_66 67 rfl ?_
              refine kmw_gives hX hK hD q1752 (Nat.le_of_ble_eq_true rfl) (Nat.le_of_ble_eq_true rfl) (Nat.zero_le _) (Nat.zero_le _) (Nat.le_of_ble_eq_true rfl) dX7_piece_67 70 rfl h (fun r67 u67 h => ?_)
              exact jj_reti (post := Post) (u := u67) hX dX7_piece_70 (Nat.le_refl 0) (Nat.le_refl 0) jm_hB h
            · have h := h.2 c50
              refine jj_aload_n hX dX7_piece_53 0 rfl 54 rfl ?_
              refine jj_iload_n hX dX7_piece_54 1 rfl 55 rfl ?_
              refine kmw_pieceMany hX hK hD q1880 (Nat.le_of_ble_eq_true rfl) (Nat.le_of_ble_eq_true rfl) (Nat.zero_le _) (Nat.zero_le _) (Nat.le_of_ble_eq_true rfl) dX7_piece_55 58 rfl h (fun r55 u55 h => ?_)
              refine jj_goto hX dX7_piece_58 67 (by decide) ?_
              refine kmw_gives hX hK hD q1752 (Nat.le_of_ble_eq_true rfl) (Nat.le_of_ble_eq_true rfl) (Nat.zero_le _) (Nat.zero_le _) (Nat.le_of_ble_eq_true rfl) dX7_piece_67 70 rfl h (fun r67 u67 h => ?_)
              exact jj_reti (post := Post) (u := u67) hX dX7_piece_70 (Nat.le_refl 0) (Nat.le_refl 0) jm_hB h
          · have h := h.2 c34
            refine jj_aload_n hX dX7_piece_37 0 rfl 38 rfl ?_
            refine jj_bipush hX dX7_piece_38 cb_6 40 rfl ?_
            refine kmw_refuse hX hK hD q1702 (Nat.le_of_ble_eq_true rfl) (Nat.le_of_ble_eq_true rfl) (Nat.zero_le _) (Nat.zero_le _) (Nat.le_of_ble_eq_true rfl) dX7_piece_40 43 rfl h (fun r40 u40 h => ?_)
            exact jj_reti (post := Post) (u := u40) hX dX7_piece_43 (Nat.le_refl 0) (Nat.le_refl 0) jm_hB h
    · have h := h.2 c6
      refine jj_aload_n hX dX7_piece_9 0 rfl 10 rfl ?_
      refine jj_iconst hX dX7_piece_10 ci_1 11 rfl ?_
      refine kmw_refuse hX hK hD q1702 (Nat.le_of_ble_eq_true rfl) (Nat.le_of_ble_eq_true rfl) (Nat.zero_le _) (Nat.zero_le _) (Nat.le_of_ble_eq_true rfl) dX7_piece_11 14 rfl h (fun r11 u11 h => ?_)
      exact jj_reti (post := Post) (u := u11) hX dX7_piece_14 (Nat.le_refl 0) (Nat.le_refl 0) jm_hB h
theorem hd_mw_piece : yX7_piece.cls = RX7 ∧ yX7_piece.cls ≠ "java/lang/invoke/MethodHandle" ∧ yX7_piece.cls ≠ "java/lang/invoke/VarHandle" ∧ (parseMethodDescriptor yX7_piece.desc).map (fun d => d.parameters.length) = some 2 := by decide +kernel
theorem kmw_piece {X : JC} {Q : State → Prop} {nL k n pc : Nat} {lv : List (Nat × Value)} {st : List Value} {own : String} {cc : ByteArray} {ret : Option FieldType} {F LL mc ms ix : Nat} {D : va_G} {dA ad : Nat → Nat} {x1 : Int32} {x2 : Int32} {u : MS} {Post : Int32 → MS → Prop} (hX : JX X own cc nL ret F LL mc ms) (hK : KM D dA (jj_s X)) (hD : MD ad) (hlk : (Cond.methodLink own ix yX7_piece) ∈ lw_all) (hF : 2 + 1 ≤ F) (hL : 8 + (3 + 11) + 47 ≤ LL) (hk : k ≤ mc) (hk2 : n ≤ ms) (hw : (st.map fun v => v.category).sum ≤ 8) (d : decode cc pc = .ok (.invokevirtual ix, 3)) (q : Nat) (hq : pc + 3 = q) (h : mw_piece x1 x2 u Post) (kk : ∀ (r : Int32) (u2 : MS), Post r u2 → JJ X (AM ad) Q nL (MW D dA ad u2) k n q lv (.int r :: st)) : JJ X (AM ad) Q nL (MW D dA ad u) k n pc lv (.int x2 :: .int x1 :: .ref (ad 0) :: st) :=
  jm_calli (na := 2) (As := [.int x1, .int x2]) hX hK (mmw_piece (jj_l X) D dA ad hD x1 x2 u Post h) hlk q1932 q1933 q129 q1934 hd_mw_piece rfl rfl hw hF hL hk hk2 d q hq kk
def mw_by_B36 (Post : Int32 → MS → Prop) (u : MS) : Prop :=
  mw_refuse (6 : Int32) u (fun r39 u39 =>
    Post r39 u39)
/-- RaisedPressModel.by(I)I -/
def mw_by (x1 : Int32) (u : MS) (Post : Int32 → MS → Prop) : Prop :=
  mw_isSet u (fun r1 u1 =>
    (r1 = 0 →
      mw_by_B36 Post u1) ∧
    (¬ r1 = 0 →
      (x1 < 0 →
        mw_by_B36 Post u1) ∧
      (¬ x1 < 0 →
        ((jm_i u1 1 8) ≤ x1 →
          mw_by_B36 Post u1) ∧
        (¬ (jm_i u1 1 8) ≤ x1 →
          vp_in ((2040 : Int32) + x1) 19800 ∧
          (¬ (jm_i u1 1 ((2040 : Int32) + x1).toNatClampNeg) = (-1 : Int32) →
            vp_in ((2040 : Int32) + x1) 19800 ∧
            mw_gives (jm_i u1 1 ((2040 : Int32) + x1).toNatClampNeg) u1 (fun r56 u56 =>
              Post r56 u56)) ∧
          ((jm_i u1 1 ((2040 : Int32) + x1).toNatClampNeg) = (-1 : Int32) →
            mw_by_B36 Post u1)))))
set_option maxHeartbeats 4000000 in
set_option maxRecDepth 100000 in
theorem tmw_by_B36 {X : JC} {D : va_G} {dA ad : Nat → Nat} {Post : Int32 → MS → Prop} {u : MS} (hX : JX X yX7_by.cls cX7_by 2 (Option.some Jvm.ClassFile.FieldType.int) 1 21 0 0) (hK : KM D dA (jj_s X)) (hD : MD ad) (h : mw_by_B36 Post  u) : JJ X (AM ad) (jj_Q X (va_Qi Post (jm_B D dA ad) (AM ad)) 0 0 (AM ad)) 2 (MW D dA ad u) 0 0 36 [(0, .ref (ad 0))] [] := by
  unfold mw_by_B36 at h
  refine jj_aload_n hX dX7_by_36 0 rfl 37 rfl ?_
  refine jj_bipush hX dX7_by_37 cb_6 39 rfl ?_
  refine kmw_refuse hX hK hD q1702 (Nat.le_of_ble_eq_true rfl) (Nat.le_of_ble_eq_true rfl) (Nat.zero_le _) (Nat.zero_le _) (Nat.le_of_ble_eq_true rfl) dX7_by_39 42 rfl h (fun r39 u39 h => ?_)
  refine jj_goto hX dX7_by_42 59 (by decide) ?_
  exact jj_reti (post := Post) (u := u39) hX dX7_by_59 (Nat.le_refl 0) (Nat.le_refl 0) jm_hB h
set_option maxHeartbeats 4000000 in
set_option maxRecDepth 100000 in
theorem mmw_by (l : Launch) (D : va_G) (dA ad : Nat → Nat) (hD : MD ad) (x1 : Int32) (u : MS) (Post : Int32 → MS → Prop) (h : mw_by x1 u Post) : Met l yX7_by (ws_ yX7_by cX7_by 2 (Option.some Jvm.ClassFile.FieldType.int)) (jm_rm 1 21) (jm_Pc D dA ad u [.int x1]) (va_Qi Post (jm_B D dA ad) (AM ad)) 0 0 (AM ad) := by
  refine jm_start [.int x1] [(0, .ref (ad 0)), (1, .int x1)] (by decide) (Nat.le_of_ble_eq_true rfl) rfl (fun X hX hK => ?_)
  unfold mw_by at h
  refine jj_aload_n hX dX7_by_0 0 rfl 1 rfl ?_
  refine kmw_isSet hX hK hD q1864 (Nat.le_of_ble_eq_true rfl) (Nat.le_of_ble_eq_true rfl) (Nat.zero_le _) (Nat.zero_le _) (Nat.le_of_ble_eq_true rfl) dX7_by_1 4 rfl h (fun r1 u1 hb1 h => ?_)
  refine jj_if_eq hX dX7_by_4 36 7 (by decide) rfl (fun c4 => ?_) (fun c4 => ?_)
  · have h := h.1 c4
    refine jj_sub (lv2 := [(0, .ref (ad 0))]) [0] rfl ?_
    exact tmw_by_B36 hX hK hD h
  · have h := h.2 c4
    refine jj_iload_n hX dX7_by_7 1 rfl 8 rfl ?_
    refine jj_if_lt hX dX7_by_8 36 11 (by decide) rfl (fun c8 => ?_) (fun c8 => ?_)
    · have h := h.1 c8
      refine jj_sub (lv2 := [(0, .ref (ad 0))]) [0] rfl ?_
      exact tmw_by_B36 hX hK hD h
    · have h := h.2 c8
      refine jj_iload_n hX dX7_by_11 1 rfl 12 rfl ?_
      refine jt_0 hX hK dX7_by_12 0 rfl dX7_by_13 q1484 16 rfl rfl ?_
      refine jj_bipush hX dX7_by_16 cb_8 18 rfl ?_
      refine jr_1 hX hK 8 kc_8 vi_1_8 dX7_by_18 19 rfl ?_
      refine jj_icmp_ge hX dX7_by_19 36 22 (by decide) rfl (fun c19 => ?_) (fun c19 => ?_)
      · have h := h.1 c19
        refine jj_sub (lv2 := [(0, .ref (ad 0))]) [0] rfl ?_
        exact tmw_by_B36 hX hK hD h
      · have h := h.2 c19
        refine jt_0 hX hK dX7_by_22 0 rfl dX7_by_23 q1484 26 rfl rfl ?_
        refine jj_sipush hX dX7_by_26 cs_2040 29 rfl ?_
        refine jj_iload_n hX dX7_by_29 1 rfl 30 rfl ?_
        refine jj_iadd hX dX7_by_30 31 rfl ?_
        obtain ⟨hi31, h⟩ := h
        refine jr_1 hX hK _ rfl hi31 dX7_by_31 32 rfl ?_
        refine jj_iconst hX dX7_by_32 ci_m1 33 rfl ?_
        refine jj_icmp_ne hX dX7_by_33 45 36 (by decide) rfl (fun c33 => ?_) (fun c33 => ?_)
        · have h := h.1 c33
          refine jj_aload_n hX dX7_by_45 0 rfl 46 rfl ?_
          refine jt_0 hX hK dX7_by_46 0 rfl dX7_by_47 q1484 50 rfl rfl ?_
          refine jj_sipush hX dX7_by_50 cs_2040 53 rfl ?_
          refine jj_iload_n hX dX7_by_53 1 rfl 54 rfl ?_
          refine jj_iadd hX dX7_by_54 55 rfl ?_
          obtain ⟨hi55, h⟩ := h
          refine jr_1 hX hK _ rfl hi55 dX7_by_55 56 rfl ?_
          refine kmw_gives hX hK hD q1752 (Nat.le_of_ble_eq_true rfl) (Nat.le_of_ble_eq_true rfl) (Nat.zero_le _) (Nat.zero_le _) (Nat.le_of_ble_eq_true rfl) dX7_by_56 59 rfl h (fun r56 u56 h => ?_)
          exact jj_reti (post := Post) (u := u56) hX dX7_by_59 (Nat.le_refl 0) (Nat.le_refl 0) jm_hB h
        · have h := h.2 c33
          refine jj_sub (lv2 := [(0, .ref (ad 0))]) [0] rfl ?_
          exact tmw_by_B36 hX hK hD h
theorem hd_mw_by : yX7_by.cls = RX7 ∧ yX7_by.cls ≠ "java/lang/invoke/MethodHandle" ∧ yX7_by.cls ≠ "java/lang/invoke/VarHandle" ∧ (parseMethodDescriptor yX7_by.desc).map (fun d => d.parameters.length) = some 1 := by decide +kernel
theorem kmw_by {X : JC} {Q : State → Prop} {nL k n pc : Nat} {lv : List (Nat × Value)} {st : List Value} {own : String} {cc : ByteArray} {ret : Option FieldType} {F LL mc ms ix : Nat} {D : va_G} {dA ad : Nat → Nat} {x1 : Int32} {u : MS} {Post : Int32 → MS → Prop} (hX : JX X own cc nL ret F LL mc ms) (hK : KM D dA (jj_s X)) (hD : MD ad) (hlk : (Cond.methodLink own ix yX7_by) ∈ lw_all) (hF : 1 + 1 ≤ F) (hL : 8 + (2 + 11) + 21 ≤ LL) (hk : k ≤ mc) (hk2 : n ≤ ms) (hw : (st.map fun v => v.category).sum ≤ 8) (d : decode cc pc = .ok (.invokevirtual ix, 3)) (q : Nat) (hq : pc + 3 = q) (h : mw_by x1 u Post) (kk : ∀ (r : Int32) (u2 : MS), Post r u2 → JJ X (AM ad) Q nL (MW D dA ad u2) k n q lv (.int r :: st)) : JJ X (AM ad) Q nL (MW D dA ad u) k n pc lv (.int x1 :: .ref (ad 0) :: st) :=
  jm_calli (na := 1) (As := [.int x1]) hX hK (mmw_by (jj_l X) D dA ad hD x1 u Post h) hlk q1936 q1937 q129 q1938 hd_mw_by rfl rfl hw hF hL hk hk2 d q hq kk
/-- RaisedPressModel.isFrom(JJJ)Z -/
def mw_isFrom (x0 : Int64) (x2 : Int64) (x4 : Int64) (Post : Int32 → Prop) : Prop :=
  ((lg_cmp x0 x2) < 0 →
    Post (0 : Int32)) ∧
  (¬ (lg_cmp x0 x2) < 0 →
    (0 < (lg_cmp x0 x4) →
      Post (0 : Int32)) ∧
    (¬ 0 < (lg_cmp x0 x4) →
      Post (1 : Int32)))
set_option maxHeartbeats 4000000 in
set_option maxRecDepth 100000 in
theorem mmw_isFrom (l : Launch) (x0 : Int64) (x2 : Int64) (x4 : Int64) (Post : Int32 → Prop) (h : mw_isFrom x0 x2 x4 Post) : Met l yX7_isFrom (ws_ yX7_isFrom cX7_isFrom 6 (Option.some Jvm.ClassFile.FieldType.boolean)) (jm_rm 0 0) (js_Pc [.long x0, .long x2, .long x4]) (va_Qi (fun r (_ : Unit) => Post r ∧ jj_z r) js_B js_A) 0 0 js_A := by
  refine js_start [.long x0, .long x2, .long x4] [(0, .long x0), (2, .long x2), (4, .long x4)] (by decide) (Nat.le_of_ble_eq_true rfl) rfl (fun X hX => ?_)
  unfold mw_isFrom at h
  refine jj_lload_n hX dX7_isFrom_0 0 rfl 1 rfl ?_
  refine jj_lload_n hX dX7_isFrom_1 1 rfl 2 rfl ?_
  refine jj_lcmp hX dX7_isFrom_2 3 rfl ?_
  refine jj_if_lt hX dX7_isFrom_3 17 6 (by decide) rfl (fun c3 => ?_) (fun c3 => ?_)
  · have h := h.1 c3
    refine jj_iconst hX dX7_isFrom_17 ci_0 18 rfl ?_
    exact jj_retz (post := (fun r (_ : Unit) => Post r)) (u := ()) hX dX7_isFrom_18 (Nat.le_refl 0) (Nat.le_refl 0) js_hB jj_z0 h
  · have h := h.2 c3
    refine jj_lload_n hX dX7_isFrom_6 0 rfl 7 rfl ?_
    refine jj_lload hX dX7_isFrom_7 2 rfl 9 rfl ?_
    refine jj_lcmp hX dX7_isFrom_9 10 rfl ?_
    refine jj_if_gt hX dX7_isFrom_10 17 13 (by decide) rfl (fun c10 => ?_) (fun c10 => ?_)
    · have h := h.1 c10
      refine jj_iconst hX dX7_isFrom_17 ci_0 18 rfl ?_
      exact jj_retz (post := (fun r (_ : Unit) => Post r)) (u := ()) hX dX7_isFrom_18 (Nat.le_refl 0) (Nat.le_refl 0) js_hB jj_z0 h
    · have h := h.2 c10
      refine jj_iconst hX dX7_isFrom_13 ci_1 14 rfl ?_
      refine jj_goto hX dX7_isFrom_14 18 (by decide) ?_
      exact jj_retz (post := (fun r (_ : Unit) => Post r)) (u := ()) hX dX7_isFrom_18 (Nat.le_refl 0) (Nat.le_refl 0) js_hB jj_z1 h
theorem hd_mw_isFrom : yX7_isFrom.cls ≠ "java/lang/invoke/MethodHandle" ∧ yX7_isFrom.cls ≠ "java/lang/invoke/VarHandle" ∧ (parseMethodDescriptor yX7_isFrom.desc).map (fun d => d.parameters.length) = some 3 := by decide +kernel
theorem kmw_isFrom {X : JC} {A : Nat → Prop} {Q : State → Prop} {P : Heap → Prop} {nL k n pc : Nat} {lv : List (Nat × Value)} {st : List Value} {own : String} {cc : ByteArray} {ret : Option FieldType} {F LL mc ms ix : Nat} {x0 : Int64} {x2 : Int64} {x4 : Int64} {Post : Int32 → Prop} (hX : JX X own cc nL ret F LL mc ms) (hKP : jj_Keeps P) (hlk : (Cond.methodLink own ix yX7_isFrom) ∈ lw_all) (hF : 0 + 1 ≤ F) (hL : 8 + (6 + 11) + 0 ≤ LL) (hk : k ≤ mc) (hk2 : n ≤ ms) (hw : (st.map fun v => v.category).sum ≤ 8) (d : decode cc pc = .ok (.invokestatic ix, 3)) (q : Nat) (hq : pc + 3 = q) (h : mw_isFrom x0 x2 x4 Post) (kk : ∀ r : Int32, jj_z r → Post r → JJ X A Q nL P k n q lv (.int r :: st)) : JJ X A Q nL P k n pc lv (.long x4 :: .long x2 :: .long x0 :: st) :=
  js_callz (na := 3) (As := [.long x0, .long x2, .long x4]) hX hKP (mmw_isFrom (jj_l X) x0 x2 x4 Post h) hlk q1945 q129 q1946 hd_mw_isFrom rfl rfl hw hF hL hk hk2 d q hq kk
/-- Math.max of two ints -/
def jw_max (x0 x1 : Int32) (Post : Int32 → Prop) : Prop := Post (if x0 < x1 then x1 else x0)
theorem kjw_max {X : JC} {A : Nat → Prop} {Q : State → Prop} {P : Heap → Prop} {nL k n pc : Nat} {lv : List (Nat × Value)} {st : List Value} {own : String} {cc : ByteArray} {ret : Option FieldType} {F LL mc ms ix : Nat} {x0 x1 : Int32} {Post : Int32 → Prop} (hX : JX X own cc nL ret F LL mc ms) (hKP : jj_Keeps P) (hlk : (Cond.methodLink own ix yJ10_max) ∈ lw_all) (hF : 0 + 1 ≤ F) (hL : 8 + (2 + 11) + 0 ≤ LL) (hk : k ≤ mc) (hk2 : n ≤ ms) (hw : (st.map fun v => v.category).sum ≤ 8) (d : decode cc pc = .ok (.invokestatic ix, 3)) (q : Nat) (hq : pc + 3 = q) (h : jw_max x0 x1 Post) (kk : ∀ r : Int32, Post r → JJ X A Q nL P k n q lv (.int r :: st)) : JJ X A Q nL P k n pc lv (.int x1 :: .int x0 :: st) := by
  subst hq
  obtain ⟨h1, h2, h3, h4, h5, h6, h7, h8, h9, h10, h11⟩ := hX
  exact fun H locs ls hP hS hh => va_mmax h1 h2 (h3.trans hh.1.symm) h4 (h5 _ hlk) (h5 _ q1233) (h5 _ q146) (h5 _ q1234) (by rw [h8]; omega) (by rw [h9]; omega) (by rw [h10]; exact hk) (by rw [h11]; exact hk2) d (kk _ h H locs ls hP hS hh)
def mw_dense_B110 (K57 : Int32 → Int32 → Int32 → MS → Prop) (Post : Int32 → MS → Prop) (x1 : Int32) (x2 : Int32) (x4 : Int32) (s0 : Int32) (s1 : Int32) (s2 : Int32) (u : MS) : Prop :=
  ∀ v112 : Int32, v112 = (s2 + (s1 - s0)) →
  ((x4 + (1 : Int32)) < x1 →
    ∀ v127 : Int32, v127 = x4 + (1 : Int32) →
    K57 x2 v112 v127 u) ∧
  (¬ (x4 + (1 : Int32)) < x1 →
    jw_max x2 v112 (fun r123 =>
      ∀ v127 : Int32, v127 = x4 + (1 : Int32) →
      K57 r123 v112 v127 u))
def mw_dense_L57_S (Post : Int32 → MS → Prop) (x1 : Int32) (R : Int32 → Int32 → Int32 → MS → Prop) (x2 : Int32) (x3 : Int32) (x4 : Int32) (u : MS) : Prop :=
  ((jm_i u 1 8) ≤ x4 →
    mw_gives x2 u (fun r135 u135 =>
      Post r135 u135)) ∧
  (¬ (jm_i u 1 8) ≤ x4 →
    vp_in ((600 : Int32) + x4) 19800 ∧
    mw_bits (jm_i u 1 ((600 : Int32) + x4).toNatClampNeg) (fun r81 =>
      (x4 < x1 →
        mw_dense_B110 R Post x1 x2 x4 (0 : Int32) r81 x3 u) ∧
      (¬ x4 < x1 →
        vp_in (((600 : Int32) + x4) - x1) 19800 ∧
        mw_bits (jm_i u 1 (((600 : Int32) + x4) - x1).toNatClampNeg) (fun r103 =>
          mw_dense_B110 R Post x1 x2 x4 r103 r81 x3 u))))
def mw_dense_L57 (Post : Int32 → MS → Prop) (x1 : Int32) : Nat → Int32 → Int32 → Int32 → MS → Prop
  | 0 => fun _ _ _ _ => False
  | n + 1 => fun x2 x3 x4 u => mw_dense_L57_S Post x1 (mw_dense_L57 Post x1 n) x2 x3 x4 u
/-- RaisedPressModel.dense(I)I -/
def mw_dense (x1 : Int32) (u : MS) (Post : Int32 → MS → Prop) : Prop :=
  mw_isFrom x1.toInt64 (1 : Int64) (40 : Int64) (fun r6 =>
    (¬ r6 = 0 →
      mw_isSet u (fun r19 u19 =>
        (¬ r19 = 0 →
          (x1 ≤ (jm_i u19 1 8) →
            ∃ n, mw_dense_L57 Post x1 n (0 : Int32) (0 : Int32) (0 : Int32) u19) ∧
          (¬ x1 ≤ (jm_i u19 1 8) →
            mw_refuse (7 : Int32) u19 (fun r46 u46 =>
              Post r46 u46))) ∧
        (r19 = 0 →
          mw_refuse (6 : Int32) u19 (fun r28 u28 =>
            Post r28 u28)))) ∧
    (r6 = 0 →
      mw_refuse (1 : Int32) u (fun r14 u14 =>
        Post r14 u14)))
set_option maxHeartbeats 4000000 in
set_option maxRecDepth 100000 in
theorem tmw_dense_B110 {X : JC} {D : va_G} {dA ad : Nat → Nat} {K57 : Int32 → Int32 → Int32 → MS → Prop} {Post : Int32 → MS → Prop} {x1 : Int32} {x2 : Int32} {x4 : Int32} {s0 : Int32} {s1 : Int32} {s2 : Int32} {u : MS} (hX : JX X yX7_dense.cls cX7_dense 5 (Option.some Jvm.ClassFile.FieldType.int) 1 25 0 0) (hK : KM D dA (jj_s X)) (hD : MD ad) (hK57 : ∀ (y2 : Int32) (y3 : Int32) (y4 : Int32) (u : MS), K57 y2 y3 y4 u → JJ X (AM ad) (jj_Q X (va_Qi Post (jm_B D dA ad) (AM ad)) 0 0 (AM ad)) 5 (MW D dA ad u) 0 0 57 [(0, .ref (ad 0)), (1, .int x1), (2, .int y2), (3, .int y3), (4, .int y4)] []) (h : mw_dense_B110 K57 Post x1 x2 x4 s0 s1 s2 u) : JJ X (AM ad) (jj_Q X (va_Qi Post (jm_B D dA ad) (AM ad)) 0 0 (AM ad)) 5 (MW D dA ad u) 0 0 110 [(0, .ref (ad 0)), (1, .int x1), (2, .int x2), (4, .int x4)] [.int s0, .int s1, .int s2] := by
  unfold mw_dense_B110 at h
  refine jj_isub hX dX7_dense_110 111 rfl ?_
  refine jj_iadd hX dX7_dense_111 112 rfl ?_
  refine jj_topi (fun v112 e112 => ?_)
  have h := h v112 e112
  refine jj_istore_n (lv2 := [(0, .ref (ad 0)), (1, .int x1), (2, .int x2), (3, .int v112), (4, .int x4)]) hX dX7_dense_112 (Nat.le_of_ble_eq_true rfl) [1, 2, 3, 0, 4] rfl 113 rfl ?_
  refine jj_iload hX dX7_dense_113 4 rfl 115 rfl ?_
  refine jj_iconst hX dX7_dense_115 ci_1 116 rfl ?_
  refine jj_iadd hX dX7_dense_116 117 rfl ?_
  refine jj_iload_n hX dX7_dense_117 1 rfl 118 rfl ?_
  refine jj_icmp_lt hX dX7_dense_118 127 121 (by decide) rfl (fun c118 => ?_) (fun c118 => ?_)
  · have h := h.1 c118
    obtain ⟨v127, e127⟩ : ∃ y : Int32, y = x4 + (1 : Int32) := ⟨_, rfl⟩
    have h := h v127 e127
    refine jj_iinc (v := v127) (lv2 := [(0, .ref (ad 0)), (1, .int x1), (2, .int x2), (3, .int v112), (4, .int v127)]) hX dX7_dense_127 4 rfl (by rw [e127, ci_1]) (Nat.le_of_ble_eq_true rfl) [1, 2, 3, 4, 0] rfl 130 rfl ?_
    refine jj_goto hX dX7_dense_130 57 (by decide) ?_
    exact hK57 _ _ _ _ h
  · have h := h.2 c118
    refine jj_iload_n hX dX7_dense_121 2 rfl 122 rfl ?_
    refine jj_iload_n hX dX7_dense_122 3 rfl 123 rfl ?_
    refine kjw_max hX MW.keeps q1947 (Nat.le_of_ble_eq_true rfl) (Nat.le_of_ble_eq_true rfl) (Nat.zero_le _) (Nat.zero_le _) (Nat.le_of_ble_eq_true rfl) dX7_dense_123 126 rfl h (fun r123 h => ?_)
    refine jj_istore_n (lv2 := [(0, .ref (ad 0)), (1, .int x1), (2, .int r123), (3, .int v112), (4, .int x4)]) hX dX7_dense_126 (Nat.le_of_ble_eq_true rfl) [1, 2, 0, 3, 4] rfl 127 rfl ?_
    obtain ⟨v127, e127⟩ : ∃ y : Int32, y = x4 + (1 : Int32) := ⟨_, rfl⟩
    have h := h v127 e127
    refine jj_iinc (v := v127) (lv2 := [(0, .ref (ad 0)), (1, .int x1), (2, .int r123), (3, .int v112), (4, .int v127)]) hX dX7_dense_127 4 rfl (by rw [e127, ci_1]) (Nat.le_of_ble_eq_true rfl) [1, 2, 3, 4, 0] rfl 130 rfl ?_
    refine jj_goto hX dX7_dense_130 57 (by decide) ?_
    exact hK57 _ _ _ _ h
set_option maxHeartbeats 4000000 in
set_option maxRecDepth 100000 in
theorem tmw_dense_L57 {X : JC} {D : va_G} {dA ad : Nat → Nat} {Post : Int32 → MS → Prop} {x1 : Int32} (hX : JX X yX7_dense.cls cX7_dense 5 (Option.some Jvm.ClassFile.FieldType.int) 1 25 0 0) (hK : KM D dA (jj_s X)) (hD : MD ad) : ∀ (n : Nat) (x2 : Int32) (x3 : Int32) (x4 : Int32) (u : MS), mw_dense_L57 Post x1 n x2 x3 x4 u → JJ X (AM ad) (jj_Q X (va_Qi Post (jm_B D dA ad) (AM ad)) 0 0 (AM ad)) 5 (MW D dA ad u) 0 0 57 [(0, .ref (ad 0)), (1, .int x1), (2, .int x2), (3, .int x3), (4, .int x4)] [] := by
  intro n
  induction n with
  | zero =>
    intro x2 x3 x4 u h
    exact h.elim
  | succ n ih =>
    intro x2 x3 x4 u h
    have h : mw_dense_L57_S Post x1 (mw_dense_L57 Post x1 n) x2 x3 x4 u := h
    unfold mw_dense_L57_S at h
    refine jj_iload hX dX7_dense_57 4 rfl 59 rfl ?_
    refine jt_0 hX hK dX7_dense_59 0 rfl dX7_dense_60 q1484 63 rfl rfl ?_
    refine jj_bipush hX dX7_dense_63 cb_8 65 rfl ?_
    refine jr_1 hX hK 8 kc_8 vi_1_8 dX7_dense_65 66 rfl ?_
    refine jj_icmp_ge hX dX7_dense_66 133 69 (by decide) rfl (fun c66 => ?_) (fun c66 => ?_)
    · have h := h.1 c66
      refine jj_aload_n hX dX7_dense_133 0 rfl 134 rfl ?_
      refine jj_iload_n hX dX7_dense_134 2 rfl 135 rfl ?_
      refine kmw_gives hX hK hD q1752 (Nat.le_of_ble_eq_true rfl) (Nat.le_of_ble_eq_true rfl) (Nat.zero_le _) (Nat.zero_le _) (Nat.le_of_ble_eq_true rfl) dX7_dense_135 138 rfl h (fun r135 u135 h => ?_)
      exact jj_reti (post := Post) (u := u135) hX dX7_dense_138 (Nat.le_refl 0) (Nat.le_refl 0) jm_hB h
    · have h := h.2 c66
      refine jj_iload_n hX dX7_dense_69 3 rfl 70 rfl ?_
      refine jt_0 hX hK dX7_dense_70 0 rfl dX7_dense_71 q1484 74 rfl rfl ?_
      refine jj_sipush hX dX7_dense_74 cs_600 77 rfl ?_
      refine jj_iload hX dX7_dense_77 4 rfl 79 rfl ?_
      refine jj_iadd hX dX7_dense_79 80 rfl ?_
      obtain ⟨hi80, h⟩ := h
      refine jr_1 hX hK _ rfl hi80 dX7_dense_80 81 rfl ?_
      refine kmw_bits hX MW.keeps q1928 (Nat.le_of_ble_eq_true rfl) (Nat.le_of_ble_eq_true rfl) (Nat.zero_le _) (Nat.zero_le _) (Nat.le_of_ble_eq_true rfl) dX7_dense_81 84 rfl h (fun r81 h => ?_)
      refine jj_iload hX dX7_dense_84 4 rfl 86 rfl ?_
      refine jj_iload_n hX dX7_dense_86 1 rfl 87 rfl ?_
      refine jj_icmp_lt hX dX7_dense_87 109 90 (by decide) rfl (fun c87 => ?_) (fun c87 => ?_)
      · have h := h.1 c87
        refine jj_iconst hX dX7_dense_109 ci_0 110 rfl ?_
        refine jj_sub (lv2 := [(0, .ref (ad 0)), (1, .int x1), (2, .int x2), (4, .int x4)]) [0, 1, 2, 4] rfl ?_
        exact tmw_dense_B110 hX hK hD ih h
      · have h := h.2 c87
        refine jt_0 hX hK dX7_dense_90 0 rfl dX7_dense_91 q1484 94 rfl rfl ?_
        refine jj_sipush hX dX7_dense_94 cs_600 97 rfl ?_
        refine jj_iload hX dX7_dense_97 4 rfl 99 rfl ?_
        refine jj_iadd hX dX7_dense_99 100 rfl ?_
        refine jj_iload_n hX dX7_dense_100 1 rfl 101 rfl ?_
        refine jj_isub hX dX7_dense_101 102 rfl ?_
        obtain ⟨hi102, h⟩ := h
        refine jr_1 hX hK _ rfl hi102 dX7_dense_102 103 rfl ?_
        refine kmw_bits hX MW.keeps q1928 (Nat.le_of_ble_eq_true rfl) (Nat.le_of_ble_eq_true rfl) (Nat.zero_le _) (Nat.zero_le _) (Nat.le_of_ble_eq_true rfl) dX7_dense_103 106 rfl h (fun r103 h => ?_)
        refine jj_goto hX dX7_dense_106 110 (by decide) ?_
        refine jj_sub (lv2 := [(0, .ref (ad 0)), (1, .int x1), (2, .int x2), (4, .int x4)]) [0, 1, 2, 4] rfl ?_
        exact tmw_dense_B110 hX hK hD ih h
set_option maxHeartbeats 4000000 in
set_option maxRecDepth 100000 in
theorem mmw_dense (l : Launch) (D : va_G) (dA ad : Nat → Nat) (hD : MD ad) (x1 : Int32) (u : MS) (Post : Int32 → MS → Prop) (h : mw_dense x1 u Post) : Met l yX7_dense (ws_ yX7_dense cX7_dense 5 (Option.some Jvm.ClassFile.FieldType.int)) (jm_rm 1 25) (jm_Pc D dA ad u [.int x1]) (va_Qi Post (jm_B D dA ad) (AM ad)) 0 0 (AM ad) := by
  refine jm_start [.int x1] [(0, .ref (ad 0)), (1, .int x1)] (by decide) (Nat.le_of_ble_eq_true rfl) rfl (fun X hX hK => ?_)
  unfold mw_dense at h
  refine jj_iload_n hX dX7_dense_0 1 rfl 1 rfl ?_
  refine jj_i2l hX dX7_dense_1 2 rfl ?_
  refine jj_lconst (v := 1) hX dX7_dense_2 (by decide) 3 rfl ?_
  refine jj_ldc2 (v := 40) hX dX7_dense_3 q1943 6 rfl ?_
  refine kmw_isFrom hX MW.keeps q1944 (Nat.le_of_ble_eq_true rfl) (Nat.le_of_ble_eq_true rfl) (Nat.zero_le _) (Nat.zero_le _) (Nat.le_of_ble_eq_true rfl) dX7_dense_6 9 rfl h (fun r6 hb6 h => ?_)
  refine jj_if_ne hX dX7_dense_9 18 12 (by decide) rfl (fun c9 => ?_) (fun c9 => ?_)
  · have h := h.1 c9
    refine jj_aload_n hX dX7_dense_18 0 rfl 19 rfl ?_
    refine kmw_isSet hX hK hD q1864 (Nat.le_of_ble_eq_true rfl) (Nat.le_of_ble_eq_true rfl) (Nat.zero_le _) (Nat.zero_le _) (Nat.le_of_ble_eq_true rfl) dX7_dense_19 22 rfl h (fun r19 u19 hb19 h => ?_)
    refine jj_if_ne hX dX7_dense_22 32 25 (by decide) rfl (fun c22 => ?_) (fun c22 => ?_)
    · have h := h.1 c22
      refine jj_iload_n hX dX7_dense_32 1 rfl 33 rfl ?_
      refine jt_0 hX hK dX7_dense_33 0 rfl dX7_dense_34 q1484 37 rfl rfl ?_
      refine jj_bipush hX dX7_dense_37 cb_8 39 rfl ?_
      refine jr_1 hX hK 8 kc_8 vi_1_8 dX7_dense_39 40 rfl ?_
      refine jj_icmp_le hX dX7_dense_40 50 43 (by decide) rfl (fun c40 => ?_) (fun c40 => ?_)
      · have h := h.1 c40
        refine jj_iconst hX dX7_dense_50 ci_0 51 rfl ?_
        refine jj_istore_n (lv2 := [(0, .ref (ad 0)), (1, .int x1), (2, .int (0 : Int32))]) hX dX7_dense_51 (Nat.le_of_ble_eq_true rfl) [1, 2, 0] rfl 52 rfl ?_
        refine jj_iconst hX dX7_dense_52 ci_0 53 rfl ?_
        refine jj_istore_n (lv2 := [(0, .ref (ad 0)), (1, .int x1), (2, .int (0 : Int32)), (3, .int (0 : Int32))]) hX dX7_dense_53 (Nat.le_of_ble_eq_true rfl) [1, 2, 3, 0] rfl 54 rfl ?_
        refine jj_iconst hX dX7_dense_54 ci_0 55 rfl ?_
        refine jj_istore (lv2 := [(0, .ref (ad 0)), (1, .int x1), (2, .int (0 : Int32)), (3, .int (0 : Int32)), (4, .int (0 : Int32))]) hX dX7_dense_55 (Nat.le_of_ble_eq_true rfl) [1, 2, 3, 4, 0] rfl 57 rfl ?_
        obtain ⟨n9, h⟩ := h
        exact tmw_dense_L57 hX hK hD n9 _ _ _ _ h
      · have h := h.2 c40
        refine jj_aload_n hX dX7_dense_43 0 rfl 44 rfl ?_
        refine jj_bipush hX dX7_dense_44 cb_7 46 rfl ?_
        refine kmw_refuse hX hK hD q1702 (Nat.le_of_ble_eq_true rfl) (Nat.le_of_ble_eq_true rfl) (Nat.zero_le _) (Nat.zero_le _) (Nat.le_of_ble_eq_true rfl) dX7_dense_46 49 rfl h (fun r46 u46 h => ?_)
        exact jj_reti (post := Post) (u := u46) hX dX7_dense_49 (Nat.le_refl 0) (Nat.le_refl 0) jm_hB h
    · have h := h.2 c22
      refine jj_aload_n hX dX7_dense_25 0 rfl 26 rfl ?_
      refine jj_bipush hX dX7_dense_26 cb_6 28 rfl ?_
      refine kmw_refuse hX hK hD q1702 (Nat.le_of_ble_eq_true rfl) (Nat.le_of_ble_eq_true rfl) (Nat.zero_le _) (Nat.zero_le _) (Nat.le_of_ble_eq_true rfl) dX7_dense_28 31 rfl h (fun r28 u28 h => ?_)
      exact jj_reti (post := Post) (u := u28) hX dX7_dense_31 (Nat.le_refl 0) (Nat.le_refl 0) jm_hB h
  · have h := h.2 c9
    refine jj_aload_n hX dX7_dense_12 0 rfl 13 rfl ?_
    refine jj_iconst hX dX7_dense_13 ci_1 14 rfl ?_
    refine kmw_refuse hX hK hD q1702 (Nat.le_of_ble_eq_true rfl) (Nat.le_of_ble_eq_true rfl) (Nat.zero_le _) (Nat.zero_le _) (Nat.le_of_ble_eq_true rfl) dX7_dense_14 17 rfl h (fun r14 u14 h => ?_)
    exact jj_reti (post := Post) (u := u14) hX dX7_dense_17 (Nat.le_refl 0) (Nat.le_refl 0) jm_hB h
theorem hd_mw_dense : yX7_dense.cls = RX7 ∧ yX7_dense.cls ≠ "java/lang/invoke/MethodHandle" ∧ yX7_dense.cls ≠ "java/lang/invoke/VarHandle" ∧ (parseMethodDescriptor yX7_dense.desc).map (fun d => d.parameters.length) = some 1 := by decide +kernel
theorem kmw_dense {X : JC} {Q : State → Prop} {nL k n pc : Nat} {lv : List (Nat × Value)} {st : List Value} {own : String} {cc : ByteArray} {ret : Option FieldType} {F LL mc ms ix : Nat} {D : va_G} {dA ad : Nat → Nat} {x1 : Int32} {u : MS} {Post : Int32 → MS → Prop} (hX : JX X own cc nL ret F LL mc ms) (hK : KM D dA (jj_s X)) (hD : MD ad) (hlk : (Cond.methodLink own ix yX7_dense) ∈ lw_all) (hF : 1 + 1 ≤ F) (hL : 8 + (5 + 11) + 25 ≤ LL) (hk : k ≤ mc) (hk2 : n ≤ ms) (hw : (st.map fun v => v.category).sum ≤ 8) (d : decode cc pc = .ok (.invokevirtual ix, 3)) (q : Nat) (hq : pc + 3 = q) (h : mw_dense x1 u Post) (kk : ∀ (r : Int32) (u2 : MS), Post r u2 → JJ X (AM ad) Q nL (MW D dA ad u2) k n q lv (.int r :: st)) : JJ X (AM ad) Q nL (MW D dA ad u) k n pc lv (.int x1 :: .ref (ad 0) :: st) :=
  jm_calli (na := 1) (As := [.int x1]) hX hK (mmw_dense (jj_l X) D dA ad hD x1 u Post h) hlk q1940 q1941 q129 q1942 hd_mw_dense rfl rfl hw hF hL hk hk2 d q hq kk
def mw_alike_L28_S (Post : Int32 → MS → Prop) (x1 : Int32) (x2 : Int32) (R : Int32 → Int32 → MS → Prop) (x3 : Int32) (x4 : Int32) (u : MS) : Prop :=
  vp_in x1 1300 ∧
  ((jm_i u 9 x1.toNatClampNeg) ≤ x4 →
    mw_gives x3 u (fun r97 u97 =>
      Post r97 u97)) ∧
  (¬ (jm_i u 9 x1.toNatClampNeg) ≤ x4 →
    vp_in x2 1300 ∧
    ((jm_i u 9 x2.toNatClampNeg) ≤ x4 →
      mw_gives x3 u (fun r97 u97 =>
        Post r97 u97)) ∧
    (¬ (jm_i u 9 x2.toNatClampNeg) ≤ x4 →
      vp_in x1 1300 ∧
      vp_in ((jm_i u 8 x1.toNatClampNeg) + x4) 2600 ∧
      vp_in x2 1300 ∧
      vp_in ((jm_i u 8 x2.toNatClampNeg) + x4) 2600 ∧
      (¬ (jm_i u 7 ((jm_i u 8 x1.toNatClampNeg) + x4).toNatClampNeg) = (jm_i u 7 ((jm_i u 8 x2.toNatClampNeg) + x4).toNatClampNeg) →
        ∀ v88 : Int32, v88 = (x3 + (0 : Int32)) →
        ∀ v89 : Int32, v89 = x4 + (1 : Int32) →
        R v88 v89 u) ∧
      ((jm_i u 7 ((jm_i u 8 x1.toNatClampNeg) + x4).toNatClampNeg) = (jm_i u 7 ((jm_i u 8 x2.toNatClampNeg) + x4).toNatClampNeg) →
        ∀ v88 : Int32, v88 = (x3 + (1 : Int32)) →
        ∀ v89 : Int32, v89 = x4 + (1 : Int32) →
        R v88 v89 u)))
def mw_alike_L28 (Post : Int32 → MS → Prop) (x1 : Int32) (x2 : Int32) : Nat → Int32 → Int32 → MS → Prop
  | 0 => fun _ _ _ => False
  | n + 1 => fun x3 x4 u => mw_alike_L28_S Post x1 x2 (mw_alike_L28 Post x1 x2 n) x3 x4 u
/-- RaisedPressModel.alike(II)I -/
def mw_alike (x1 : Int32) (x2 : Int32) (u : MS) (Post : Int32 → MS → Prop) : Prop :=
  mw_isLine x1 u (fun r2 u2 =>
    (r2 = 0 →
      mw_refuse (6 : Int32) u2 (fun r19 u19 =>
        Post r19 u19)) ∧
    (¬ r2 = 0 →
      mw_isLine x2 u2 (fun r10 u10 =>
        (¬ r10 = 0 →
          ∃ n, mw_alike_L28 Post x1 x2 n (0 : Int32) (0 : Int32) u10) ∧
        (r10 = 0 →
          mw_refuse (6 : Int32) u10 (fun r19 u19 =>
            Post r19 u19)))))
set_option maxHeartbeats 4000000 in
set_option maxRecDepth 100000 in
theorem tmw_alike_L28 {X : JC} {D : va_G} {dA ad : Nat → Nat} {Post : Int32 → MS → Prop} {x1 : Int32} {x2 : Int32} (hX : JX X yX7_alike.cls cX7_alike 5 (Option.some Jvm.ClassFile.FieldType.int) 3 68 0 0) (hK : KM D dA (jj_s X)) (hD : MD ad) : ∀ (n : Nat) (x3 : Int32) (x4 : Int32) (u : MS), mw_alike_L28 Post x1 x2 n x3 x4 u → JJ X (AM ad) (jj_Q X (va_Qi Post (jm_B D dA ad) (AM ad)) 0 0 (AM ad)) 5 (MW D dA ad u) 0 0 28 [(0, .ref (ad 0)), (1, .int x1), (2, .int x2), (3, .int x3), (4, .int x4)] [] := by
  intro n
  induction n with
  | zero =>
    intro x3 x4 u h
    exact h.elim
  | succ n ih =>
    intro x3 x4 u h
    have h : mw_alike_L28_S Post x1 x2 (mw_alike_L28 Post x1 x2 n) x3 x4 u := h
    unfold mw_alike_L28_S at h
    refine jj_iload hX dX7_alike_28 4 rfl 30 rfl ?_
    refine jt_24 hX hK dX7_alike_30 0 rfl dX7_alike_31 q1508 34 rfl rfl ?_
    refine jj_iload_n hX dX7_alike_34 1 rfl 35 rfl ?_
    obtain ⟨hi35, h⟩ := h
    refine jr_9 hX hK _ rfl hi35 dX7_alike_35 36 rfl ?_
    refine jj_icmp_ge hX dX7_alike_36 95 39 (by decide) rfl (fun c36 => ?_) (fun c36 => ?_)
    · have h := h.1 c36
      refine jj_aload_n hX dX7_alike_95 0 rfl 96 rfl ?_
      refine jj_iload_n hX dX7_alike_96 3 rfl 97 rfl ?_
      refine kmw_gives hX hK hD q1752 (Nat.le_of_ble_eq_true rfl) (Nat.le_of_ble_eq_true rfl) (Nat.zero_le _) (Nat.zero_le _) (Nat.le_of_ble_eq_true rfl) dX7_alike_97 100 rfl h (fun r97 u97 h => ?_)
      exact jj_reti (post := Post) (u := u97) hX dX7_alike_100 (Nat.le_refl 0) (Nat.le_refl 0) jm_hB h
    · have h := h.2 c36
      refine jj_iload hX dX7_alike_39 4 rfl 41 rfl ?_
      refine jt_24 hX hK dX7_alike_41 0 rfl dX7_alike_42 q1508 45 rfl rfl ?_
      refine jj_iload_n hX dX7_alike_45 2 rfl 46 rfl ?_
      obtain ⟨hi46, h⟩ := h
      refine jr_9 hX hK _ rfl hi46 dX7_alike_46 47 rfl ?_
      refine jj_icmp_ge hX dX7_alike_47 95 50 (by decide) rfl (fun c47 => ?_) (fun c47 => ?_)
      · have h := h.1 c47
        refine jj_aload_n hX dX7_alike_95 0 rfl 96 rfl ?_
        refine jj_iload_n hX dX7_alike_96 3 rfl 97 rfl ?_
        refine kmw_gives hX hK hD q1752 (Nat.le_of_ble_eq_true rfl) (Nat.le_of_ble_eq_true rfl) (Nat.zero_le _) (Nat.zero_le _) (Nat.le_of_ble_eq_true rfl) dX7_alike_97 100 rfl h (fun r97 u97 h => ?_)
        exact jj_reti (post := Post) (u := u97) hX dX7_alike_100 (Nat.le_refl 0) (Nat.le_refl 0) jm_hB h
      · have h := h.2 c47
        refine jj_iload_n hX dX7_alike_50 3 rfl 51 rfl ?_
        refine jt_22 hX hK dX7_alike_51 0 rfl dX7_alike_52 q1506 55 rfl rfl ?_
        refine jt_23 hX hK dX7_alike_55 0 rfl dX7_alike_56 q1507 59 rfl rfl ?_
        refine jj_iload_n hX dX7_alike_59 1 rfl 60 rfl ?_
        obtain ⟨hi60, h⟩ := h
        refine jr_8 hX hK _ rfl hi60 dX7_alike_60 61 rfl ?_
        refine jj_iload hX dX7_alike_61 4 rfl 63 rfl ?_
        refine jj_iadd hX dX7_alike_63 64 rfl ?_
        obtain ⟨hi64, h⟩ := h
        refine jr_7 hX hK _ rfl hi64 dX7_alike_64 65 rfl ?_
        refine jt_22 hX hK dX7_alike_65 0 rfl dX7_alike_66 q1506 69 rfl rfl ?_
        refine jt_23 hX hK dX7_alike_69 0 rfl dX7_alike_70 q1507 73 rfl rfl ?_
        refine jj_iload_n hX dX7_alike_73 2 rfl 74 rfl ?_
        obtain ⟨hi74, h⟩ := h
        refine jr_8 hX hK _ rfl hi74 dX7_alike_74 75 rfl ?_
        refine jj_iload hX dX7_alike_75 4 rfl 77 rfl ?_
        refine jj_iadd hX dX7_alike_77 78 rfl ?_
        obtain ⟨hi78, h⟩ := h
        refine jr_7 hX hK _ rfl hi78 dX7_alike_78 79 rfl ?_
        refine jj_icmp_ne hX dX7_alike_79 86 82 (by decide) rfl (fun c79 => ?_) (fun c79 => ?_)
        · have h := h.1 c79
          refine jj_iconst hX dX7_alike_86 ci_0 87 rfl ?_
          refine jj_iadd hX dX7_alike_87 88 rfl ?_
          refine jj_topi (fun v88 e88 => ?_)
          have h := h v88 e88
          refine jj_istore_n (lv2 := [(0, .ref (ad 0)), (1, .int x1), (2, .int x2), (3, .int v88), (4, .int x4)]) hX dX7_alike_88 (Nat.le_of_ble_eq_true rfl) [1, 2, 3, 0, 4] rfl 89 rfl ?_
          obtain ⟨v89, e89⟩ : ∃ y : Int32, y = x4 + (1 : Int32) := ⟨_, rfl⟩
          have h := h v89 e89
          refine jj_iinc (v := v89) (lv2 := [(0, .ref (ad 0)), (1, .int x1), (2, .int x2), (3, .int v88), (4, .int v89)]) hX dX7_alike_89 4 rfl (by rw [e89, ci_1]) (Nat.le_of_ble_eq_true rfl) [1, 2, 3, 4, 0] rfl 92 rfl ?_
          refine jj_goto hX dX7_alike_92 28 (by decide) ?_
          exact ih _ _ _ h
        · have h := h.2 c79
          refine jj_iconst hX dX7_alike_82 ci_1 83 rfl ?_
          refine jj_goto hX dX7_alike_83 87 (by decide) ?_
          refine jj_iadd hX dX7_alike_87 88 rfl ?_
          refine jj_topi (fun v88 e88 => ?_)
          have h := h v88 e88
          refine jj_istore_n (lv2 := [(0, .ref (ad 0)), (1, .int x1), (2, .int x2), (3, .int v88), (4, .int x4)]) hX dX7_alike_88 (Nat.le_of_ble_eq_true rfl) [1, 2, 3, 0, 4] rfl 89 rfl ?_
          obtain ⟨v89, e89⟩ : ∃ y : Int32, y = x4 + (1 : Int32) := ⟨_, rfl⟩
          have h := h v89 e89
          refine jj_iinc (v := v89) (lv2 := [(0, .ref (ad 0)), (1, .int x1), (2, .int x2), (3, .int v88), (4, .int v89)]) hX dX7_alike_89 4 rfl (by rw [e89, ci_1]) (Nat.le_of_ble_eq_true rfl) [1, 2, 3, 4, 0] rfl 92 rfl ?_
          refine jj_goto hX dX7_alike_92 28 (by decide) ?_
          exact ih _ _ _ h
set_option maxHeartbeats 4000000 in
set_option maxRecDepth 100000 in
theorem mmw_alike (l : Launch) (D : va_G) (dA ad : Nat → Nat) (hD : MD ad) (x1 : Int32) (x2 : Int32) (u : MS) (Post : Int32 → MS → Prop) (h : mw_alike x1 x2 u Post) : Met l yX7_alike (ws_ yX7_alike cX7_alike 5 (Option.some Jvm.ClassFile.FieldType.int)) (jm_rm 3 68) (jm_Pc D dA ad u [.int x1, .int x2]) (va_Qi Post (jm_B D dA ad) (AM ad)) 0 0 (AM ad) := by
  refine jm_start [.int x1, .int x2] [(0, .ref (ad 0)), (1, .int x1), (2, .int x2)] (by decide) (Nat.le_of_ble_eq_true rfl) rfl (fun X hX hK => ?_)
  unfold mw_alike at h
  refine jj_aload_n hX dX7_alike_0 0 rfl 1 rfl ?_
  refine jj_iload_n hX dX7_alike_1 1 rfl 2 rfl ?_
  refine kmw_isLine hX hK hD q1900 (Nat.le_of_ble_eq_true rfl) (Nat.le_of_ble_eq_true rfl) (Nat.zero_le _) (Nat.zero_le _) (Nat.le_of_ble_eq_true rfl) dX7_alike_2 5 rfl h (fun r2 u2 hb2 h => ?_)
  refine jj_if_eq hX dX7_alike_5 16 8 (by decide) rfl (fun c5 => ?_) (fun c5 => ?_)
  · have h := h.1 c5
    refine jj_aload_n hX dX7_alike_16 0 rfl 17 rfl ?_
    refine jj_bipush hX dX7_alike_17 cb_6 19 rfl ?_
    refine kmw_refuse hX hK hD q1702 (Nat.le_of_ble_eq_true rfl) (Nat.le_of_ble_eq_true rfl) (Nat.zero_le _) (Nat.zero_le _) (Nat.le_of_ble_eq_true rfl) dX7_alike_19 22 rfl h (fun r19 u19 h => ?_)
    exact jj_reti (post := Post) (u := u19) hX dX7_alike_22 (Nat.le_refl 0) (Nat.le_refl 0) jm_hB h
  · have h := h.2 c5
    refine jj_aload_n hX dX7_alike_8 0 rfl 9 rfl ?_
    refine jj_iload_n hX dX7_alike_9 2 rfl 10 rfl ?_
    refine kmw_isLine hX hK hD q1900 (Nat.le_of_ble_eq_true rfl) (Nat.le_of_ble_eq_true rfl) (Nat.zero_le _) (Nat.zero_le _) (Nat.le_of_ble_eq_true rfl) dX7_alike_10 13 rfl h (fun r10 u10 hb10 h => ?_)
    refine jj_if_ne hX dX7_alike_13 23 16 (by decide) rfl (fun c13 => ?_) (fun c13 => ?_)
    · have h := h.1 c13
      refine jj_iconst hX dX7_alike_23 ci_0 24 rfl ?_
      refine jj_istore_n (lv2 := [(0, .ref (ad 0)), (1, .int x1), (2, .int x2), (3, .int (0 : Int32))]) hX dX7_alike_24 (Nat.le_of_ble_eq_true rfl) [1, 2, 3, 0] rfl 25 rfl ?_
      refine jj_iconst hX dX7_alike_25 ci_0 26 rfl ?_
      refine jj_istore (lv2 := [(0, .ref (ad 0)), (1, .int x1), (2, .int x2), (3, .int (0 : Int32)), (4, .int (0 : Int32))]) hX dX7_alike_26 (Nat.le_of_ble_eq_true rfl) [1, 2, 3, 4, 0] rfl 28 rfl ?_
      obtain ⟨n9, h⟩ := h
      exact tmw_alike_L28 hX hK hD n9 _ _ _ h
    · have h := h.2 c13
      refine jj_aload_n hX dX7_alike_16 0 rfl 17 rfl ?_
      refine jj_bipush hX dX7_alike_17 cb_6 19 rfl ?_
      refine kmw_refuse hX hK hD q1702 (Nat.le_of_ble_eq_true rfl) (Nat.le_of_ble_eq_true rfl) (Nat.zero_le _) (Nat.zero_le _) (Nat.le_of_ble_eq_true rfl) dX7_alike_19 22 rfl h (fun r19 u19 h => ?_)
      exact jj_reti (post := Post) (u := u19) hX dX7_alike_22 (Nat.le_refl 0) (Nat.le_refl 0) jm_hB h
theorem hd_mw_alike : yX7_alike.cls = RX7 ∧ yX7_alike.cls ≠ "java/lang/invoke/MethodHandle" ∧ yX7_alike.cls ≠ "java/lang/invoke/VarHandle" ∧ (parseMethodDescriptor yX7_alike.desc).map (fun d => d.parameters.length) = some 2 := by decide +kernel
theorem kmw_alike {X : JC} {Q : State → Prop} {nL k n pc : Nat} {lv : List (Nat × Value)} {st : List Value} {own : String} {cc : ByteArray} {ret : Option FieldType} {F LL mc ms ix : Nat} {D : va_G} {dA ad : Nat → Nat} {x1 : Int32} {x2 : Int32} {u : MS} {Post : Int32 → MS → Prop} (hX : JX X own cc nL ret F LL mc ms) (hK : KM D dA (jj_s X)) (hD : MD ad) (hlk : (Cond.methodLink own ix yX7_alike) ∈ lw_all) (hF : 3 + 1 ≤ F) (hL : 8 + (5 + 11) + 68 ≤ LL) (hk : k ≤ mc) (hk2 : n ≤ ms) (hw : (st.map fun v => v.category).sum ≤ 8) (d : decode cc pc = .ok (.invokevirtual ix, 3)) (q : Nat) (hq : pc + 3 = q) (h : mw_alike x1 x2 u Post) (kk : ∀ (r : Int32) (u2 : MS), Post r u2 → JJ X (AM ad) Q nL (MW D dA ad u2) k n q lv (.int r :: st)) : JJ X (AM ad) Q nL (MW D dA ad u) k n pc lv (.int x2 :: .int x1 :: .ref (ad 0) :: st) :=
  jm_calli (na := 2) (As := [.int x1, .int x2]) hX hK (mmw_alike (jj_l X) D dA ad hD x1 x2 u Post h) hlk q1949 q1950 q129 q1951 hd_mw_alike rfl rfl hw hF hL hk hk2 d q hq kk
def mw_longest_L28_S (Post : Int32 → MS → Prop) (R : Int32 → Int32 → MS → Prop) (x1 : Int32) (x2 : Int32) (u : MS) : Prop :=
  ((jm_i u 1 9) ≤ x2 →
    mw_gives x1 u (fun r62 u62 =>
      Post r62 u62)) ∧
  (¬ (jm_i u 1 9) ≤ x2 →
    mw_pieceMany x2 u (fun r41 u41 =>
      mw_pieceMany x1 u41 (fun r46 u46 =>
        (r41 ≤ r46 →
          ∀ v54 : Int32, v54 = x2 + (1 : Int32) →
          R x1 v54 u46) ∧
        (¬ r41 ≤ r46 →
          ∀ v54 : Int32, v54 = x2 + (1 : Int32) →
          R x2 v54 u46))))
def mw_longest_L28 (Post : Int32 → MS → Prop) : Nat → Int32 → Int32 → MS → Prop
  | 0 => fun _ _ _ => False
  | n + 1 => fun x1 x2 u => mw_longest_L28_S Post (mw_longest_L28 Post n) x1 x2 u
/-- RaisedPressModel.longest()I -/
def mw_longest (u : MS) (Post : Int32 → MS → Prop) : Prop :=
  mw_isSet u (fun r1 u1 =>
    (r1 = 0 →
      mw_refuse (6 : Int32) u1 (fun r20 u20 =>
        Post r20 u20)) ∧
    (¬ r1 = 0 →
      (¬ (jm_i u1 1 9) = 0 →
        ∃ n, mw_longest_L28 Post n (0 : Int32) (1 : Int32) u1) ∧
      ((jm_i u1 1 9) = 0 →
        mw_refuse (6 : Int32) u1 (fun r20 u20 =>
          Post r20 u20))))
set_option maxHeartbeats 4000000 in
set_option maxRecDepth 100000 in
theorem tmw_longest_L28 {X : JC} {D : va_G} {dA ad : Nat → Nat} {Post : Int32 → MS → Prop} (hX : JX X yX7_longest.cls cX7_longest 3 (Option.some Jvm.ClassFile.FieldType.int) 1 21 0 0) (hK : KM D dA (jj_s X)) (hD : MD ad) : ∀ (n : Nat) (x1 : Int32) (x2 : Int32) (u : MS), mw_longest_L28 Post n x1 x2 u → JJ X (AM ad) (jj_Q X (va_Qi Post (jm_B D dA ad) (AM ad)) 0 0 (AM ad)) 3 (MW D dA ad u) 0 0 28 [(0, .ref (ad 0)), (1, .int x1), (2, .int x2)] [] := by
  intro n
  induction n with
  | zero =>
    intro x1 x2 u h
    exact h.elim
  | succ n ih =>
    intro x1 x2 u h
    have h : mw_longest_L28_S Post (mw_longest_L28 Post n) x1 x2 u := h
    unfold mw_longest_L28_S at h
    refine jj_iload_n hX dX7_longest_28 2 rfl 29 rfl ?_
    refine jt_0 hX hK dX7_longest_29 0 rfl dX7_longest_30 q1484 33 rfl rfl ?_
    refine jj_bipush hX dX7_longest_33 cb_9 35 rfl ?_
    refine jr_1 hX hK 9 kc_9 vi_1_9 dX7_longest_35 36 rfl ?_
    refine jj_icmp_ge hX dX7_longest_36 60 39 (by decide) rfl (fun c36 => ?_) (fun c36 => ?_)
    · have h := h.1 c36
      refine jj_aload_n hX dX7_longest_60 0 rfl 61 rfl ?_
      refine jj_iload_n hX dX7_longest_61 1 rfl 62 rfl ?_
      refine kmw_gives hX hK hD q1752 (Nat.le_of_ble_eq_true rfl) (Nat.le_of_ble_eq_true rfl) (Nat.zero_le _) (Nat.zero_le _) (Nat.le_of_ble_eq_true rfl) dX7_longest_62 65 rfl h (fun r62 u62 h => ?_)
      exact jj_reti (post := Post) (u := u62) hX dX7_longest_65 (Nat.le_refl 0) (Nat.le_refl 0) jm_hB h
    · have h := h.2 c36
      refine jj_aload_n hX dX7_longest_39 0 rfl 40 rfl ?_
      refine jj_iload_n hX dX7_longest_40 2 rfl 41 rfl ?_
      refine kmw_pieceMany hX hK hD q1880 (Nat.le_of_ble_eq_true rfl) (Nat.le_of_ble_eq_true rfl) (Nat.zero_le _) (Nat.zero_le _) (Nat.le_of_ble_eq_true rfl) dX7_longest_41 44 rfl h (fun r41 u41 h => ?_)
      refine jj_aload_n hX dX7_longest_44 0 rfl 45 rfl ?_
      refine jj_iload_n hX dX7_longest_45 1 rfl 46 rfl ?_
      refine kmw_pieceMany hX hK hD q1880 (Nat.le_of_ble_eq_true rfl) (Nat.le_of_ble_eq_true rfl) (Nat.zero_le _) (Nat.zero_le _) (Nat.le_of_ble_eq_true rfl) dX7_longest_46 49 rfl h (fun r46 u46 h => ?_)
      refine jj_icmp_le hX dX7_longest_49 54 52 (by decide) rfl (fun c49 => ?_) (fun c49 => ?_)
      · have h := h.1 c49
        obtain ⟨v54, e54⟩ : ∃ y : Int32, y = x2 + (1 : Int32) := ⟨_, rfl⟩
        have h := h v54 e54
        refine jj_iinc (v := v54) (lv2 := [(0, .ref (ad 0)), (1, .int x1), (2, .int v54)]) hX dX7_longest_54 2 rfl (by rw [e54, ci_1]) (Nat.le_of_ble_eq_true rfl) [1, 2, 0] rfl 57 rfl ?_
        refine jj_goto hX dX7_longest_57 28 (by decide) ?_
        exact ih _ _ _ h
      · have h := h.2 c49
        refine jj_iload_n hX dX7_longest_52 2 rfl 53 rfl ?_
        refine jj_istore_n (lv2 := [(0, .ref (ad 0)), (1, .int x2), (2, .int x2)]) hX dX7_longest_53 (Nat.le_of_ble_eq_true rfl) [1, 0, 2] rfl 54 rfl ?_
        obtain ⟨v54, e54⟩ : ∃ y : Int32, y = x2 + (1 : Int32) := ⟨_, rfl⟩
        have h := h v54 e54
        refine jj_iinc (v := v54) (lv2 := [(0, .ref (ad 0)), (1, .int x2), (2, .int v54)]) hX dX7_longest_54 2 rfl (by rw [e54, ci_1]) (Nat.le_of_ble_eq_true rfl) [1, 2, 0] rfl 57 rfl ?_
        refine jj_goto hX dX7_longest_57 28 (by decide) ?_
        exact ih _ _ _ h
set_option maxHeartbeats 4000000 in
set_option maxRecDepth 100000 in
theorem mmw_longest (l : Launch) (D : va_G) (dA ad : Nat → Nat) (hD : MD ad) (u : MS) (Post : Int32 → MS → Prop) (h : mw_longest  u Post) : Met l yX7_longest (ws_ yX7_longest cX7_longest 3 (Option.some Jvm.ClassFile.FieldType.int)) (jm_rm 1 21) (jm_Pc D dA ad u []) (va_Qi Post (jm_B D dA ad) (AM ad)) 0 0 (AM ad) := by
  refine jm_start [] [(0, .ref (ad 0))] (by decide) (Nat.le_of_ble_eq_true rfl) rfl (fun X hX hK => ?_)
  unfold mw_longest at h
  refine jj_aload_n hX dX7_longest_0 0 rfl 1 rfl ?_
  refine kmw_isSet hX hK hD q1864 (Nat.le_of_ble_eq_true rfl) (Nat.le_of_ble_eq_true rfl) (Nat.zero_le _) (Nat.zero_le _) (Nat.le_of_ble_eq_true rfl) dX7_longest_1 4 rfl h (fun r1 u1 hb1 h => ?_)
  refine jj_if_eq hX dX7_longest_4 17 7 (by decide) rfl (fun c4 => ?_) (fun c4 => ?_)
  · have h := h.1 c4
    refine jj_aload_n hX dX7_longest_17 0 rfl 18 rfl ?_
    refine jj_bipush hX dX7_longest_18 cb_6 20 rfl ?_
    refine kmw_refuse hX hK hD q1702 (Nat.le_of_ble_eq_true rfl) (Nat.le_of_ble_eq_true rfl) (Nat.zero_le _) (Nat.zero_le _) (Nat.le_of_ble_eq_true rfl) dX7_longest_20 23 rfl h (fun r20 u20 h => ?_)
    exact jj_reti (post := Post) (u := u20) hX dX7_longest_23 (Nat.le_refl 0) (Nat.le_refl 0) jm_hB h
  · have h := h.2 c4
    refine jt_0 hX hK dX7_longest_7 0 rfl dX7_longest_8 q1484 11 rfl rfl ?_
    refine jj_bipush hX dX7_longest_11 cb_9 13 rfl ?_
    refine jr_1 hX hK 9 kc_9 vi_1_9 dX7_longest_13 14 rfl ?_
    refine jj_if_ne hX dX7_longest_14 24 17 (by decide) rfl (fun c14 => ?_) (fun c14 => ?_)
    · have h := h.1 c14
      refine jj_iconst hX dX7_longest_24 ci_0 25 rfl ?_
      refine jj_istore_n (lv2 := [(0, .ref (ad 0)), (1, .int (0 : Int32))]) hX dX7_longest_25 (Nat.le_of_ble_eq_true rfl) [1, 0] rfl 26 rfl ?_
      refine jj_iconst hX dX7_longest_26 ci_1 27 rfl ?_
      refine jj_istore_n (lv2 := [(0, .ref (ad 0)), (1, .int (0 : Int32)), (2, .int (1 : Int32))]) hX dX7_longest_27 (Nat.le_of_ble_eq_true rfl) [1, 2, 0] rfl 28 rfl ?_
      obtain ⟨n9, h⟩ := h
      exact tmw_longest_L28 hX hK hD n9 _ _ _ h
    · have h := h.2 c14
      refine jj_aload_n hX dX7_longest_17 0 rfl 18 rfl ?_
      refine jj_bipush hX dX7_longest_18 cb_6 20 rfl ?_
      refine kmw_refuse hX hK hD q1702 (Nat.le_of_ble_eq_true rfl) (Nat.le_of_ble_eq_true rfl) (Nat.zero_le _) (Nat.zero_le _) (Nat.le_of_ble_eq_true rfl) dX7_longest_20 23 rfl h (fun r20 u20 h => ?_)
      exact jj_reti (post := Post) (u := u20) hX dX7_longest_23 (Nat.le_refl 0) (Nat.le_refl 0) jm_hB h
theorem hd_mw_longest : yX7_longest.cls = RX7 ∧ yX7_longest.cls ≠ "java/lang/invoke/MethodHandle" ∧ yX7_longest.cls ≠ "java/lang/invoke/VarHandle" ∧ (parseMethodDescriptor yX7_longest.desc).map (fun d => d.parameters.length) = some 0 := by decide +kernel
theorem kmw_longest {X : JC} {Q : State → Prop} {nL k n pc : Nat} {lv : List (Nat × Value)} {st : List Value} {own : String} {cc : ByteArray} {ret : Option FieldType} {F LL mc ms ix : Nat} {D : va_G} {dA ad : Nat → Nat} {u : MS} {Post : Int32 → MS → Prop} (hX : JX X own cc nL ret F LL mc ms) (hK : KM D dA (jj_s X)) (hD : MD ad) (hlk : (Cond.methodLink own ix yX7_longest) ∈ lw_all) (hF : 1 + 1 ≤ F) (hL : 8 + (3 + 11) + 21 ≤ LL) (hk : k ≤ mc) (hk2 : n ≤ ms) (hw : (st.map fun v => v.category).sum ≤ 8) (d : decode cc pc = .ok (.invokevirtual ix, 3)) (q : Nat) (hq : pc + 3 = q) (h : mw_longest  u Post) (kk : ∀ (r : Int32) (u2 : MS), Post r u2 → JJ X (AM ad) Q nL (MW D dA ad u2) k n q lv (.int r :: st)) : JJ X (AM ad) Q nL (MW D dA ad u) k n pc lv (.ref (ad 0) :: st) :=
  jm_calli (na := 0) (As := []) hX hK (mmw_longest (jj_l X) D dA ad hD  u Post h) hlk q1953 q1954 q129 q1955 hd_mw_longest rfl rfl hw hF hL hk hk2 d q hq kk
def mw_inLine_L19_S (Post : Int32 → MS → Prop) (x1 : Int32) (R : Int32 → Int32 → MS → Prop) (x2 : Int32) (x3 : Int32) (u : MS) : Prop :=
  ((jm_i u 1 9) ≤ x3 →
    mw_gives x2 u (fun r66 u66 =>
      Post r66 u66)) ∧
  (¬ (jm_i u 1 9) ≤ x3 →
    vp_in x3 160 ∧
    (x1 < (jm_i u 10 x3.toNatClampNeg) →
      ∀ v57 : Int32, v57 = (x2 + (0 : Int32)) →
      ∀ v58 : Int32, v58 = x3 + (1 : Int32) →
      R v57 v58 u) ∧
    (¬ x1 < (jm_i u 10 x3.toNatClampNeg) →
      vp_in x3 160 ∧
      ((jm_i u 11 x3.toNatClampNeg) < x1 →
        ∀ v57 : Int32, v57 = (x2 + (0 : Int32)) →
        ∀ v58 : Int32, v58 = x3 + (1 : Int32) →
        R v57 v58 u) ∧
      (¬ (jm_i u 11 x3.toNatClampNeg) < x1 →
        ∀ v57 : Int32, v57 = (x2 + (1 : Int32)) →
        ∀ v58 : Int32, v58 = x3 + (1 : Int32) →
        R v57 v58 u)))
def mw_inLine_L19 (Post : Int32 → MS → Prop) (x1 : Int32) : Nat → Int32 → Int32 → MS → Prop
  | 0 => fun _ _ _ => False
  | n + 1 => fun x2 x3 u => mw_inLine_L19_S Post x1 (mw_inLine_L19 Post x1 n) x2 x3 u
/-- RaisedPressModel.inLine(I)I -/
def mw_inLine (x1 : Int32) (u : MS) (Post : Int32 → MS → Prop) : Prop :=
  mw_isLine x1 u (fun r2 u2 =>
    (¬ r2 = 0 →
      ∃ n, mw_inLine_L19 Post x1 n (0 : Int32) (0 : Int32) u2) ∧
    (r2 = 0 →
      mw_refuse (6 : Int32) u2 (fun r11 u11 =>
        Post r11 u11)))
set_option maxHeartbeats 4000000 in
set_option maxRecDepth 100000 in
theorem tmw_inLine_L19 {X : JC} {D : va_G} {dA ad : Nat → Nat} {Post : Int32 → MS → Prop} {x1 : Int32} (hX : JX X yX7_inLine.cls cX7_inLine 4 (Option.some Jvm.ClassFile.FieldType.int) 3 68 0 0) (hK : KM D dA (jj_s X)) (hD : MD ad) : ∀ (n : Nat) (x2 : Int32) (x3 : Int32) (u : MS), mw_inLine_L19 Post x1 n x2 x3 u → JJ X (AM ad) (jj_Q X (va_Qi Post (jm_B D dA ad) (AM ad)) 0 0 (AM ad)) 4 (MW D dA ad u) 0 0 19 [(0, .ref (ad 0)), (1, .int x1), (2, .int x2), (3, .int x3)] [] := by
  intro n
  induction n with
  | zero =>
    intro x2 x3 u h
    exact h.elim
  | succ n ih =>
    intro x2 x3 u h
    have h : mw_inLine_L19_S Post x1 (mw_inLine_L19 Post x1 n) x2 x3 u := h
    unfold mw_inLine_L19_S at h
    refine jj_iload_n hX dX7_inLine_19 3 rfl 20 rfl ?_
    refine jt_0 hX hK dX7_inLine_20 0 rfl dX7_inLine_21 q1484 24 rfl rfl ?_
    refine jj_bipush hX dX7_inLine_24 cb_9 26 rfl ?_
    refine jr_1 hX hK 9 kc_9 vi_1_9 dX7_inLine_26 27 rfl ?_
    refine jj_icmp_ge hX dX7_inLine_27 64 30 (by decide) rfl (fun c27 => ?_) (fun c27 => ?_)
    · have h := h.1 c27
      refine jj_aload_n hX dX7_inLine_64 0 rfl 65 rfl ?_
      refine jj_iload_n hX dX7_inLine_65 2 rfl 66 rfl ?_
      refine kmw_gives hX hK hD q1752 (Nat.le_of_ble_eq_true rfl) (Nat.le_of_ble_eq_true rfl) (Nat.zero_le _) (Nat.zero_le _) (Nat.le_of_ble_eq_true rfl) dX7_inLine_66 69 rfl h (fun r66 u66 h => ?_)
      exact jj_reti (post := Post) (u := u66) hX dX7_inLine_69 (Nat.le_refl 0) (Nat.le_refl 0) jm_hB h
    · have h := h.2 c27
      refine jj_iload_n hX dX7_inLine_30 2 rfl 31 rfl ?_
      refine jt_25 hX hK dX7_inLine_31 0 rfl dX7_inLine_32 q1509 35 rfl rfl ?_
      refine jj_iload_n hX dX7_inLine_35 3 rfl 36 rfl ?_
      obtain ⟨hi36, h⟩ := h
      refine jr_10 hX hK _ rfl hi36 dX7_inLine_36 37 rfl ?_
      refine jj_iload_n hX dX7_inLine_37 1 rfl 38 rfl ?_
      refine jj_icmp_gt hX dX7_inLine_38 55 41 (by decide) rfl (fun c38 => ?_) (fun c38 => ?_)
      · have h := h.1 c38
        refine jj_iconst hX dX7_inLine_55 ci_0 56 rfl ?_
        refine jj_iadd hX dX7_inLine_56 57 rfl ?_
        refine jj_topi (fun v57 e57 => ?_)
        have h := h v57 e57
        refine jj_istore_n (lv2 := [(0, .ref (ad 0)), (1, .int x1), (2, .int v57), (3, .int x3)]) hX dX7_inLine_57 (Nat.le_of_ble_eq_true rfl) [1, 2, 0, 3] rfl 58 rfl ?_
        obtain ⟨v58, e58⟩ : ∃ y : Int32, y = x3 + (1 : Int32) := ⟨_, rfl⟩
        have h := h v58 e58
        refine jj_iinc (v := v58) (lv2 := [(0, .ref (ad 0)), (1, .int x1), (2, .int v57), (3, .int v58)]) hX dX7_inLine_58 3 rfl (by rw [e58, ci_1]) (Nat.le_of_ble_eq_true rfl) [1, 2, 3, 0] rfl 61 rfl ?_
        refine jj_goto hX dX7_inLine_61 19 (by decide) ?_
        exact ih _ _ _ h
      · have h := h.2 c38
        refine jt_26 hX hK dX7_inLine_41 0 rfl dX7_inLine_42 q1510 45 rfl rfl ?_
        refine jj_iload_n hX dX7_inLine_45 3 rfl 46 rfl ?_
        obtain ⟨hi46, h⟩ := h
        refine jr_11 hX hK _ rfl hi46 dX7_inLine_46 47 rfl ?_
        refine jj_iload_n hX dX7_inLine_47 1 rfl 48 rfl ?_
        refine jj_icmp_lt hX dX7_inLine_48 55 51 (by decide) rfl (fun c48 => ?_) (fun c48 => ?_)
        · have h := h.1 c48
          refine jj_iconst hX dX7_inLine_55 ci_0 56 rfl ?_
          refine jj_iadd hX dX7_inLine_56 57 rfl ?_
          refine jj_topi (fun v57 e57 => ?_)
          have h := h v57 e57
          refine jj_istore_n (lv2 := [(0, .ref (ad 0)), (1, .int x1), (2, .int v57), (3, .int x3)]) hX dX7_inLine_57 (Nat.le_of_ble_eq_true rfl) [1, 2, 0, 3] rfl 58 rfl ?_
          obtain ⟨v58, e58⟩ : ∃ y : Int32, y = x3 + (1 : Int32) := ⟨_, rfl⟩
          have h := h v58 e58
          refine jj_iinc (v := v58) (lv2 := [(0, .ref (ad 0)), (1, .int x1), (2, .int v57), (3, .int v58)]) hX dX7_inLine_58 3 rfl (by rw [e58, ci_1]) (Nat.le_of_ble_eq_true rfl) [1, 2, 3, 0] rfl 61 rfl ?_
          refine jj_goto hX dX7_inLine_61 19 (by decide) ?_
          exact ih _ _ _ h
        · have h := h.2 c48
          refine jj_iconst hX dX7_inLine_51 ci_1 52 rfl ?_
          refine jj_goto hX dX7_inLine_52 56 (by decide) ?_
          refine jj_iadd hX dX7_inLine_56 57 rfl ?_
          refine jj_topi (fun v57 e57 => ?_)
          have h := h v57 e57
          refine jj_istore_n (lv2 := [(0, .ref (ad 0)), (1, .int x1), (2, .int v57), (3, .int x3)]) hX dX7_inLine_57 (Nat.le_of_ble_eq_true rfl) [1, 2, 0, 3] rfl 58 rfl ?_
          obtain ⟨v58, e58⟩ : ∃ y : Int32, y = x3 + (1 : Int32) := ⟨_, rfl⟩
          have h := h v58 e58
          refine jj_iinc (v := v58) (lv2 := [(0, .ref (ad 0)), (1, .int x1), (2, .int v57), (3, .int v58)]) hX dX7_inLine_58 3 rfl (by rw [e58, ci_1]) (Nat.le_of_ble_eq_true rfl) [1, 2, 3, 0] rfl 61 rfl ?_
          refine jj_goto hX dX7_inLine_61 19 (by decide) ?_
          exact ih _ _ _ h
set_option maxHeartbeats 4000000 in
set_option maxRecDepth 100000 in
theorem mmw_inLine (l : Launch) (D : va_G) (dA ad : Nat → Nat) (hD : MD ad) (x1 : Int32) (u : MS) (Post : Int32 → MS → Prop) (h : mw_inLine x1 u Post) : Met l yX7_inLine (ws_ yX7_inLine cX7_inLine 4 (Option.some Jvm.ClassFile.FieldType.int)) (jm_rm 3 68) (jm_Pc D dA ad u [.int x1]) (va_Qi Post (jm_B D dA ad) (AM ad)) 0 0 (AM ad) := by
  refine jm_start [.int x1] [(0, .ref (ad 0)), (1, .int x1)] (by decide) (Nat.le_of_ble_eq_true rfl) rfl (fun X hX hK => ?_)
  unfold mw_inLine at h
  refine jj_aload_n hX dX7_inLine_0 0 rfl 1 rfl ?_
  refine jj_iload_n hX dX7_inLine_1 1 rfl 2 rfl ?_
  refine kmw_isLine hX hK hD q1900 (Nat.le_of_ble_eq_true rfl) (Nat.le_of_ble_eq_true rfl) (Nat.zero_le _) (Nat.zero_le _) (Nat.le_of_ble_eq_true rfl) dX7_inLine_2 5 rfl h (fun r2 u2 hb2 h => ?_)
  refine jj_if_ne hX dX7_inLine_5 15 8 (by decide) rfl (fun c5 => ?_) (fun c5 => ?_)
  · have h := h.1 c5
    refine jj_iconst hX dX7_inLine_15 ci_0 16 rfl ?_
    refine jj_istore_n (lv2 := [(0, .ref (ad 0)), (1, .int x1), (2, .int (0 : Int32))]) hX dX7_inLine_16 (Nat.le_of_ble_eq_true rfl) [1, 2, 0] rfl 17 rfl ?_
    refine jj_iconst hX dX7_inLine_17 ci_0 18 rfl ?_
    refine jj_istore_n (lv2 := [(0, .ref (ad 0)), (1, .int x1), (2, .int (0 : Int32)), (3, .int (0 : Int32))]) hX dX7_inLine_18 (Nat.le_of_ble_eq_true rfl) [1, 2, 3, 0] rfl 19 rfl ?_
    obtain ⟨n9, h⟩ := h
    exact tmw_inLine_L19 hX hK hD n9 _ _ _ h
  · have h := h.2 c5
    refine jj_aload_n hX dX7_inLine_8 0 rfl 9 rfl ?_
    refine jj_bipush hX dX7_inLine_9 cb_6 11 rfl ?_
    refine kmw_refuse hX hK hD q1702 (Nat.le_of_ble_eq_true rfl) (Nat.le_of_ble_eq_true rfl) (Nat.zero_le _) (Nat.zero_le _) (Nat.le_of_ble_eq_true rfl) dX7_inLine_11 14 rfl h (fun r11 u11 h => ?_)
    exact jj_reti (post := Post) (u := u11) hX dX7_inLine_14 (Nat.le_refl 0) (Nat.le_refl 0) jm_hB h
theorem hd_mw_inLine : yX7_inLine.cls = RX7 ∧ yX7_inLine.cls ≠ "java/lang/invoke/MethodHandle" ∧ yX7_inLine.cls ≠ "java/lang/invoke/VarHandle" ∧ (parseMethodDescriptor yX7_inLine.desc).map (fun d => d.parameters.length) = some 1 := by decide +kernel
theorem kmw_inLine {X : JC} {Q : State → Prop} {nL k n pc : Nat} {lv : List (Nat × Value)} {st : List Value} {own : String} {cc : ByteArray} {ret : Option FieldType} {F LL mc ms ix : Nat} {D : va_G} {dA ad : Nat → Nat} {x1 : Int32} {u : MS} {Post : Int32 → MS → Prop} (hX : JX X own cc nL ret F LL mc ms) (hK : KM D dA (jj_s X)) (hD : MD ad) (hlk : (Cond.methodLink own ix yX7_inLine) ∈ lw_all) (hF : 3 + 1 ≤ F) (hL : 8 + (4 + 11) + 68 ≤ LL) (hk : k ≤ mc) (hk2 : n ≤ ms) (hw : (st.map fun v => v.category).sum ≤ 8) (d : decode cc pc = .ok (.invokevirtual ix, 3)) (q : Nat) (hq : pc + 3 = q) (h : mw_inLine x1 u Post) (kk : ∀ (r : Int32) (u2 : MS), Post r u2 → JJ X (AM ad) Q nL (MW D dA ad u2) k n q lv (.int r :: st)) : JJ X (AM ad) Q nL (MW D dA ad u) k n pc lv (.int x1 :: .ref (ad 0) :: st) :=
  jm_calli (na := 1) (As := [.int x1]) hX hK (mmw_inLine (jj_l X) D dA ad hD x1 u Post h) hlk q1957 q1958 q129 q1959 hd_mw_inLine rfl rfl hw hF hL hk hk2 d q hq kk
def mw_covers_B76 (K39 : Int32 → Int32 → Int32 → MS → Prop) (Post : Int32 → MS → Prop) (x1 : Int32) (x2 : Int32) (x3 : Int32) (x4 : Int32) (u : MS) : Prop :=
  mw_isOut (jm_i u 1 6) x1 (fun r85 =>
    (¬ r85 = 0 →
      ∀ v114 : Int32, v114 = (x2 + (0 : Int32)) →
      ∀ v115 : Int32, v115 = x4 + (1 : Int32) →
      K39 v114 x3 v115 u) ∧
    (r85 = 0 →
      mw_wordEnd x4 u (fun r99 u99 =>
        mw_stands x1 x4 x3 r99 u99 (fun r102 u102 =>
          (r102 = 0 →
            ∀ v114 : Int32, v114 = (x2 + (0 : Int32)) →
            ∀ v115 : Int32, v115 = x4 + (1 : Int32) →
            K39 v114 x3 v115 u102) ∧
          (¬ r102 = 0 →
            ∀ v114 : Int32, v114 = (x2 + (1 : Int32)) →
            ∀ v115 : Int32, v115 = x4 + (1 : Int32) →
            K39 v114 x3 v115 u102)))))
def mw_covers_L39_S (Post : Int32 → MS → Prop) (x1 : Int32) (R : Int32 → Int32 → Int32 → MS → Prop) (x2 : Int32) (x3 : Int32) (x4 : Int32) (u : MS) : Prop :=
  ((jm_i u 1 7) ≤ x4 →
    mw_gives x2 u (fun r123 u123 =>
      Post r123 u123)) ∧
  (¬ (jm_i u 1 7) ≤ x4 →
    mw_byteOf x4 u (fun r54 u54 =>
      mw_isLetter r54 (fun r57 =>
        (¬ r57 = 0 →
          (¬ x3 = (-1 : Int32) →
            mw_covers_B76 R Post x1 x2 x3 x4 u54) ∧
          (x3 = (-1 : Int32) →
            mw_covers_B76 R Post x1 x2 x4 x4 u54)) ∧
        (r57 = 0 →
          ∀ v115 : Int32, v115 = x4 + (1 : Int32) →
          R x2 (-1 : Int32) v115 u54))))
def mw_covers_L39 (Post : Int32 → MS → Prop) (x1 : Int32) : Nat → Int32 → Int32 → Int32 → MS → Prop
  | 0 => fun _ _ _ _ => False
  | n + 1 => fun x2 x3 x4 u => mw_covers_L39_S Post x1 (mw_covers_L39 Post x1 n) x2 x3 x4 u
/-- RaisedPressModel.covers(I)I -/
def mw_covers (x1 : Int32) (u : MS) (Post : Int32 → MS → Prop) : Prop :=
  mw_isRule x1 u (fun r2 u2 =>
    (¬ r2 = 0 →
      mw_isSet u2 (fun r15 u15 =>
        (¬ r15 = 0 →
          mw_laysBytes u15 (fun u29 =>
            ∃ n, mw_covers_L39 Post x1 n (0 : Int32) (-1 : Int32) (0 : Int32) u29)) ∧
        (r15 = 0 →
          mw_refuse (6 : Int32) u15 (fun r24 u24 =>
            Post r24 u24)))) ∧
    (r2 = 0 →
      mw_refuse (1 : Int32) u2 (fun r10 u10 =>
        Post r10 u10)))
set_option maxHeartbeats 4000000 in
set_option maxRecDepth 100000 in
theorem tmw_covers_B76 {X : JC} {D : va_G} {dA ad : Nat → Nat} {K39 : Int32 → Int32 → Int32 → MS → Prop} {Post : Int32 → MS → Prop} {x1 : Int32} {x2 : Int32} {x3 : Int32} {x4 : Int32} {u : MS} (hX : JX X yX7_covers.cls cX7_covers 5 (Option.some Jvm.ClassFile.FieldType.int) 3 66 0 0) (hK : KM D dA (jj_s X)) (hD : MD ad) (hK39 : ∀ (y2 : Int32) (y3 : Int32) (y4 : Int32) (u : MS), K39 y2 y3 y4 u → JJ X (AM ad) (jj_Q X (va_Qi Post (jm_B D dA ad) (AM ad)) 0 0 (AM ad)) 5 (MW D dA ad u) 0 0 39 [(0, .ref (ad 0)), (1, .int x1), (2, .int y2), (3, .int y3), (4, .int y4)] []) (h : mw_covers_B76 K39 Post x1 x2 x3 x4  u) : JJ X (AM ad) (jj_Q X (va_Qi Post (jm_B D dA ad) (AM ad)) 0 0 (AM ad)) 5 (MW D dA ad u) 0 0 76 [(0, .ref (ad 0)), (1, .int x1), (2, .int x2), (3, .int x3), (4, .int x4)] [] := by
  unfold mw_covers_B76 at h
  refine jj_iload_n hX dX7_covers_76 2 rfl 77 rfl ?_
  refine jt_0 hX hK dX7_covers_77 0 rfl dX7_covers_78 q1484 81 rfl rfl ?_
  refine jj_bipush hX dX7_covers_81 cb_6 83 rfl ?_
  refine jr_1 hX hK 6 kc_6 vi_1_6 dX7_covers_83 84 rfl ?_
  refine jj_iload_n hX dX7_covers_84 1 rfl 85 rfl ?_
  refine kmw_isOut hX MW.keeps q1800 (Nat.le_of_ble_eq_true rfl) (Nat.le_of_ble_eq_true rfl) (Nat.zero_le _) (Nat.zero_le _) (Nat.le_of_ble_eq_true rfl) dX7_covers_85 88 rfl h (fun r85 hb85 h => ?_)
  refine jj_if_ne hX dX7_covers_88 112 91 (by decide) rfl (fun c88 => ?_) (fun c88 => ?_)
  · have h := h.1 c88
    refine jj_iconst hX dX7_covers_112 ci_0 113 rfl ?_
    refine jj_iadd hX dX7_covers_113 114 rfl ?_
    refine jj_topi (fun v114 e114 => ?_)
    have h := h v114 e114
    refine jj_istore_n (lv2 := [(0, .ref (ad 0)), (1, .int x1), (2, .int v114), (3, .int x3), (4, .int x4)]) hX dX7_covers_114 (Nat.le_of_ble_eq_true rfl) [1, 2, 0, 3, 4] rfl 115 rfl ?_
    obtain ⟨v115, e115⟩ : ∃ y : Int32, y = x4 + (1 : Int32) := ⟨_, rfl⟩
    have h := h v115 e115
    refine jj_iinc (v := v115) (lv2 := [(0, .ref (ad 0)), (1, .int x1), (2, .int v114), (3, .int x3), (4, .int v115)]) hX dX7_covers_115 4 rfl (by rw [e115, ci_1]) (Nat.le_of_ble_eq_true rfl) [1, 2, 3, 4, 0] rfl 118 rfl ?_
    refine jj_goto hX dX7_covers_118 39 (by decide) ?_
    exact hK39 _ _ _ _ h
  · have h := h.2 c88
    refine jj_aload_n hX dX7_covers_91 0 rfl 92 rfl ?_
    refine jj_iload_n hX dX7_covers_92 1 rfl 93 rfl ?_
    refine jj_iload hX dX7_covers_93 4 rfl 95 rfl ?_
    refine jj_iload_n hX dX7_covers_95 3 rfl 96 rfl ?_
    refine jj_aload_n hX dX7_covers_96 0 rfl 97 rfl ?_
    refine jj_iload hX dX7_covers_97 4 rfl 99 rfl ?_
    refine kmw_wordEnd hX hK hD q1788 (Nat.le_of_ble_eq_true rfl) (Nat.le_of_ble_eq_true rfl) (Nat.zero_le _) (Nat.zero_le _) (Nat.le_of_ble_eq_true rfl) dX7_covers_99 102 rfl h (fun r99 u99 h => ?_)
    refine kmw_stands hX hK hD q1803 (Nat.le_of_ble_eq_true rfl) (Nat.le_of_ble_eq_true rfl) (Nat.zero_le _) (Nat.zero_le _) (Nat.le_of_ble_eq_true rfl) dX7_covers_102 105 rfl h (fun r102 u102 hb102 h => ?_)
    refine jj_if_eq hX dX7_covers_105 112 108 (by decide) rfl (fun c105 => ?_) (fun c105 => ?_)
    · have h := h.1 c105
      refine jj_iconst hX dX7_covers_112 ci_0 113 rfl ?_
      refine jj_iadd hX dX7_covers_113 114 rfl ?_
      refine jj_topi (fun v114 e114 => ?_)
      have h := h v114 e114
      refine jj_istore_n (lv2 := [(0, .ref (ad 0)), (1, .int x1), (2, .int v114), (3, .int x3), (4, .int x4)]) hX dX7_covers_114 (Nat.le_of_ble_eq_true rfl) [1, 2, 0, 3, 4] rfl 115 rfl ?_
      obtain ⟨v115, e115⟩ : ∃ y : Int32, y = x4 + (1 : Int32) := ⟨_, rfl⟩
      have h := h v115 e115
      refine jj_iinc (v := v115) (lv2 := [(0, .ref (ad 0)), (1, .int x1), (2, .int v114), (3, .int x3), (4, .int v115)]) hX dX7_covers_115 4 rfl (by rw [e115, ci_1]) (Nat.le_of_ble_eq_true rfl) [1, 2, 3, 4, 0] rfl 118 rfl ?_
      refine jj_goto hX dX7_covers_118 39 (by decide) ?_
      exact hK39 _ _ _ _ h
    · have h := h.2 c105
      refine jj_iconst hX dX7_covers_108 ci_1 109 rfl ?_
      refine jj_goto hX dX7_covers_109 113 (by decide) ?_
      refine jj_iadd hX dX7_covers_113 114 rfl ?_
      refine jj_topi (fun v114 e114 => ?_)
      have h := h v114 e114
      refine jj_istore_n (lv2 := [(0, .ref (ad 0)), (1, .int x1), (2, .int v114), (3, .int x3), (4, .int x4)]) hX dX7_covers_114 (Nat.le_of_ble_eq_true rfl) [1, 2, 0, 3, 4] rfl 115 rfl ?_
      obtain ⟨v115, e115⟩ : ∃ y : Int32, y = x4 + (1 : Int32) := ⟨_, rfl⟩
      have h := h v115 e115
      refine jj_iinc (v := v115) (lv2 := [(0, .ref (ad 0)), (1, .int x1), (2, .int v114), (3, .int x3), (4, .int v115)]) hX dX7_covers_115 4 rfl (by rw [e115, ci_1]) (Nat.le_of_ble_eq_true rfl) [1, 2, 3, 4, 0] rfl 118 rfl ?_
      refine jj_goto hX dX7_covers_118 39 (by decide) ?_
      exact hK39 _ _ _ _ h
set_option maxHeartbeats 4000000 in
set_option maxRecDepth 100000 in
theorem tmw_covers_L39 {X : JC} {D : va_G} {dA ad : Nat → Nat} {Post : Int32 → MS → Prop} {x1 : Int32} (hX : JX X yX7_covers.cls cX7_covers 5 (Option.some Jvm.ClassFile.FieldType.int) 3 66 0 0) (hK : KM D dA (jj_s X)) (hD : MD ad) : ∀ (n : Nat) (x2 : Int32) (x3 : Int32) (x4 : Int32) (u : MS), mw_covers_L39 Post x1 n x2 x3 x4 u → JJ X (AM ad) (jj_Q X (va_Qi Post (jm_B D dA ad) (AM ad)) 0 0 (AM ad)) 5 (MW D dA ad u) 0 0 39 [(0, .ref (ad 0)), (1, .int x1), (2, .int x2), (3, .int x3), (4, .int x4)] [] := by
  intro n
  induction n with
  | zero =>
    intro x2 x3 x4 u h
    exact h.elim
  | succ n ih =>
    intro x2 x3 x4 u h
    have h : mw_covers_L39_S Post x1 (mw_covers_L39 Post x1 n) x2 x3 x4 u := h
    unfold mw_covers_L39_S at h
    refine jj_iload hX dX7_covers_39 4 rfl 41 rfl ?_
    refine jt_0 hX hK dX7_covers_41 0 rfl dX7_covers_42 q1484 45 rfl rfl ?_
    refine jj_bipush hX dX7_covers_45 cb_7 47 rfl ?_
    refine jr_1 hX hK 7 kc_7 vi_1_7 dX7_covers_47 48 rfl ?_
    refine jj_icmp_ge hX dX7_covers_48 121 51 (by decide) rfl (fun c48 => ?_) (fun c48 => ?_)
    · have h := h.1 c48
      refine jj_aload_n hX dX7_covers_121 0 rfl 122 rfl ?_
      refine jj_iload_n hX dX7_covers_122 2 rfl 123 rfl ?_
      refine kmw_gives hX hK hD q1752 (Nat.le_of_ble_eq_true rfl) (Nat.le_of_ble_eq_true rfl) (Nat.zero_le _) (Nat.zero_le _) (Nat.le_of_ble_eq_true rfl) dX7_covers_123 126 rfl h (fun r123 u123 h => ?_)
      exact jj_reti (post := Post) (u := u123) hX dX7_covers_126 (Nat.le_refl 0) (Nat.le_refl 0) jm_hB h
    · have h := h.2 c48
      refine jj_aload_n hX dX7_covers_51 0 rfl 52 rfl ?_
      refine jj_iload hX dX7_covers_52 4 rfl 54 rfl ?_
      refine kmw_byteOf hX hK hD q1764 (Nat.le_of_ble_eq_true rfl) (Nat.le_of_ble_eq_true rfl) (Nat.zero_le _) (Nat.zero_le _) (Nat.le_of_ble_eq_true rfl) dX7_covers_54 57 rfl h (fun r54 u54 h => ?_)
      refine kmw_isLetter hX MW.keeps q1771 (Nat.le_of_ble_eq_true rfl) (Nat.le_of_ble_eq_true rfl) (Nat.zero_le _) (Nat.zero_le _) (Nat.le_of_ble_eq_true rfl) dX7_covers_57 60 rfl h (fun r57 hb57 h => ?_)
      refine jj_if_ne hX dX7_covers_60 68 63 (by decide) rfl (fun c60 => ?_) (fun c60 => ?_)
      · have h := h.1 c60
        refine jj_iload_n hX dX7_covers_68 3 rfl 69 rfl ?_
        refine jj_iconst hX dX7_covers_69 ci_m1 70 rfl ?_
        refine jj_icmp_ne hX dX7_covers_70 76 73 (by decide) rfl (fun c70 => ?_) (fun c70 => ?_)
        · have h := h.1 c70
          exact tmw_covers_B76 hX hK hD ih h
        · have h := h.2 c70
          refine jj_iload hX dX7_covers_73 4 rfl 75 rfl ?_
          refine jj_istore_n (lv2 := [(0, .ref (ad 0)), (1, .int x1), (2, .int x2), (3, .int x4), (4, .int x4)]) hX dX7_covers_75 (Nat.le_of_ble_eq_true rfl) [1, 2, 3, 0, 4] rfl 76 rfl ?_
          exact tmw_covers_B76 hX hK hD ih h
      · have h := h.2 c60
        refine jj_iconst hX dX7_covers_63 ci_m1 64 rfl ?_
        refine jj_istore_n (lv2 := [(0, .ref (ad 0)), (1, .int x1), (2, .int x2), (3, .int (-1 : Int32)), (4, .int x4)]) hX dX7_covers_64 (Nat.le_of_ble_eq_true rfl) [1, 2, 3, 0, 4] rfl 65 rfl ?_
        refine jj_goto hX dX7_covers_65 115 (by decide) ?_
        obtain ⟨v115, e115⟩ : ∃ y : Int32, y = x4 + (1 : Int32) := ⟨_, rfl⟩
        have h := h v115 e115
        refine jj_iinc (v := v115) (lv2 := [(0, .ref (ad 0)), (1, .int x1), (2, .int x2), (3, .int (-1 : Int32)), (4, .int v115)]) hX dX7_covers_115 4 rfl (by rw [e115, ci_1]) (Nat.le_of_ble_eq_true rfl) [1, 2, 3, 4, 0] rfl 118 rfl ?_
        refine jj_goto hX dX7_covers_118 39 (by decide) ?_
        exact ih _ _ _ _ h
set_option maxHeartbeats 4000000 in
set_option maxRecDepth 100000 in
theorem mmw_covers (l : Launch) (D : va_G) (dA ad : Nat → Nat) (hD : MD ad) (x1 : Int32) (u : MS) (Post : Int32 → MS → Prop) (h : mw_covers x1 u Post) : Met l yX7_covers (ws_ yX7_covers cX7_covers 5 (Option.some Jvm.ClassFile.FieldType.int)) (jm_rm 3 66) (jm_Pc D dA ad u [.int x1]) (va_Qi Post (jm_B D dA ad) (AM ad)) 0 0 (AM ad) := by
  refine jm_start [.int x1] [(0, .ref (ad 0)), (1, .int x1)] (by decide) (Nat.le_of_ble_eq_true rfl) rfl (fun X hX hK => ?_)
  unfold mw_covers at h
  refine jj_aload_n hX dX7_covers_0 0 rfl 1 rfl ?_
  refine jj_iload_n hX dX7_covers_1 1 rfl 2 rfl ?_
  refine kmw_isRule hX hK hD q1836 (Nat.le_of_ble_eq_true rfl) (Nat.le_of_ble_eq_true rfl) (Nat.zero_le _) (Nat.zero_le _) (Nat.le_of_ble_eq_true rfl) dX7_covers_2 5 rfl h (fun r2 u2 hb2 h => ?_)
  refine jj_if_ne hX dX7_covers_5 14 8 (by decide) rfl (fun c5 => ?_) (fun c5 => ?_)
  · have h := h.1 c5
    refine jj_aload_n hX dX7_covers_14 0 rfl 15 rfl ?_
    refine kmw_isSet hX hK hD q1864 (Nat.le_of_ble_eq_true rfl) (Nat.le_of_ble_eq_true rfl) (Nat.zero_le _) (Nat.zero_le _) (Nat.le_of_ble_eq_true rfl) dX7_covers_15 18 rfl h (fun r15 u15 hb15 h => ?_)
    refine jj_if_ne hX dX7_covers_18 28 21 (by decide) rfl (fun c18 => ?_) (fun c18 => ?_)
    · have h := h.1 c18
      refine jj_aload_n hX dX7_covers_28 0 rfl 29 rfl ?_
      refine kmw_laysBytes hX hK hD q1868 (Nat.le_of_ble_eq_true rfl) (Nat.le_of_ble_eq_true rfl) (Nat.zero_le _) (Nat.zero_le _) (Nat.le_of_ble_eq_true rfl) dX7_covers_29 32 rfl h (fun u29 h => ?_)
      refine jj_iconst hX dX7_covers_32 ci_0 33 rfl ?_
      refine jj_istore_n (lv2 := [(0, .ref (ad 0)), (1, .int x1), (2, .int (0 : Int32))]) hX dX7_covers_33 (Nat.le_of_ble_eq_true rfl) [1, 2, 0] rfl 34 rfl ?_
      refine jj_iconst hX dX7_covers_34 ci_m1 35 rfl ?_
      refine jj_istore_n (lv2 := [(0, .ref (ad 0)), (1, .int x1), (2, .int (0 : Int32)), (3, .int (-1 : Int32))]) hX dX7_covers_35 (Nat.le_of_ble_eq_true rfl) [1, 2, 3, 0] rfl 36 rfl ?_
      refine jj_iconst hX dX7_covers_36 ci_0 37 rfl ?_
      refine jj_istore (lv2 := [(0, .ref (ad 0)), (1, .int x1), (2, .int (0 : Int32)), (3, .int (-1 : Int32)), (4, .int (0 : Int32))]) hX dX7_covers_37 (Nat.le_of_ble_eq_true rfl) [1, 2, 3, 4, 0] rfl 39 rfl ?_
      obtain ⟨n9, h⟩ := h
      exact tmw_covers_L39 hX hK hD n9 _ _ _ _ h
    · have h := h.2 c18
      refine jj_aload_n hX dX7_covers_21 0 rfl 22 rfl ?_
      refine jj_bipush hX dX7_covers_22 cb_6 24 rfl ?_
      refine kmw_refuse hX hK hD q1702 (Nat.le_of_ble_eq_true rfl) (Nat.le_of_ble_eq_true rfl) (Nat.zero_le _) (Nat.zero_le _) (Nat.le_of_ble_eq_true rfl) dX7_covers_24 27 rfl h (fun r24 u24 h => ?_)
      exact jj_reti (post := Post) (u := u24) hX dX7_covers_27 (Nat.le_refl 0) (Nat.le_refl 0) jm_hB h
  · have h := h.2 c5
    refine jj_aload_n hX dX7_covers_8 0 rfl 9 rfl ?_
    refine jj_iconst hX dX7_covers_9 ci_1 10 rfl ?_
    refine kmw_refuse hX hK hD q1702 (Nat.le_of_ble_eq_true rfl) (Nat.le_of_ble_eq_true rfl) (Nat.zero_le _) (Nat.zero_le _) (Nat.le_of_ble_eq_true rfl) dX7_covers_10 13 rfl h (fun r10 u10 h => ?_)
    exact jj_reti (post := Post) (u := u10) hX dX7_covers_13 (Nat.le_refl 0) (Nat.le_refl 0) jm_hB h
theorem hd_mw_covers : yX7_covers.cls = RX7 ∧ yX7_covers.cls ≠ "java/lang/invoke/MethodHandle" ∧ yX7_covers.cls ≠ "java/lang/invoke/VarHandle" ∧ (parseMethodDescriptor yX7_covers.desc).map (fun d => d.parameters.length) = some 1 := by decide +kernel
theorem kmw_covers {X : JC} {Q : State → Prop} {nL k n pc : Nat} {lv : List (Nat × Value)} {st : List Value} {own : String} {cc : ByteArray} {ret : Option FieldType} {F LL mc ms ix : Nat} {D : va_G} {dA ad : Nat → Nat} {x1 : Int32} {u : MS} {Post : Int32 → MS → Prop} (hX : JX X own cc nL ret F LL mc ms) (hK : KM D dA (jj_s X)) (hD : MD ad) (hlk : (Cond.methodLink own ix yX7_covers) ∈ lw_all) (hF : 3 + 1 ≤ F) (hL : 8 + (5 + 11) + 66 ≤ LL) (hk : k ≤ mc) (hk2 : n ≤ ms) (hw : (st.map fun v => v.category).sum ≤ 8) (d : decode cc pc = .ok (.invokevirtual ix, 3)) (q : Nat) (hq : pc + 3 = q) (h : mw_covers x1 u Post) (kk : ∀ (r : Int32) (u2 : MS), Post r u2 → JJ X (AM ad) Q nL (MW D dA ad u2) k n q lv (.int r :: st)) : JJ X (AM ad) Q nL (MW D dA ad u) k n pc lv (.int x1 :: .ref (ad 0) :: st) :=
  jm_calli (na := 1) (As := [.int x1]) hX hK (mmw_covers (jj_l X) D dA ad hD x1 u Post h) hlk q1961 q1962 q129 q1963 hd_mw_covers rfl rfl hw hF hL hk hk2 d q hq kk
