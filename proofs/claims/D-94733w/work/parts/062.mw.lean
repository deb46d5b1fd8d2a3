set_option linter.unusedVariables false
/-- RaisedPressModel.isSign(I)Z -/
def mw_isSign (x1 : Int32) (u : MS) (Post : Int32 → MS → Prop) : Prop :=
  (¬ (jm_i u 0 11) = (4 : Int32) →
    Post (0 : Int32) u) ∧
  ((jm_i u 0 11) = (4 : Int32) →
    (¬ (jm_i u 0 14) = x1 →
      Post (0 : Int32) u) ∧
    ((jm_i u 0 14) = x1 →
      Post (1 : Int32) u))
set_option maxHeartbeats 4000000 in
set_option maxRecDepth 100000 in
theorem mmw_isSign (l : Launch) (D : va_G) (dA ad : Nat → Nat) (hD : MD ad) (x1 : Int32) (u : MS) (Post : Int32 → MS → Prop) (h : mw_isSign x1 u Post) : Met l yX7_isSign (ws_ yX7_isSign cX7_isSign 2 (Option.some Jvm.ClassFile.FieldType.boolean)) (jm_rm 0 0) (jm_Pc D dA ad u [.int x1]) (va_Qi (fun r u => Post r u ∧ jj_z r) (jm_B D dA ad) (AM ad)) 0 0 (AM ad) := by
  refine jm_start [.int x1] [(0, .ref (ad 0)), (1, .int x1)] (by decide) (Nat.le_of_ble_eq_true rfl) rfl (fun X hX hK => ?_)
  unfold mw_isSign at h
  refine jt_11 hX hK dX7_isSign_0 0 rfl dX7_isSign_1 q1495 4 rfl rfl ?_
  refine jj_iconst hX dX7_isSign_4 ci_4 5 rfl ?_
  refine jj_icmp_ne hX dX7_isSign_5 20 8 (by decide) rfl (fun c5 => ?_) (fun c5 => ?_)
  · have h := h.1 c5
    refine jj_iconst hX dX7_isSign_20 ci_0 21 rfl ?_
    exact jj_retz (post := Post) (u := u) hX dX7_isSign_21 (Nat.le_refl 0) (Nat.le_refl 0) jm_hB jj_z0 h
  · have h := h.2 c5
    refine jt_14 hX hK dX7_isSign_8 0 rfl dX7_isSign_9 q1498 12 rfl rfl ?_
    refine jj_iload_n hX dX7_isSign_12 1 rfl 13 rfl ?_
    refine jj_icmp_ne hX dX7_isSign_13 20 16 (by decide) rfl (fun c13 => ?_) (fun c13 => ?_)
    · have h := h.1 c13
      refine jj_iconst hX dX7_isSign_20 ci_0 21 rfl ?_
      exact jj_retz (post := Post) (u := u) hX dX7_isSign_21 (Nat.le_refl 0) (Nat.le_refl 0) jm_hB jj_z0 h
    · have h := h.2 c13
      refine jj_iconst hX dX7_isSign_16 ci_1 17 rfl ?_
      refine jj_goto hX dX7_isSign_17 21 (by decide) ?_
      exact jj_retz (post := Post) (u := u) hX dX7_isSign_21 (Nat.le_refl 0) (Nat.le_refl 0) jm_hB jj_z1 h
theorem hd_mw_isSign : yX7_isSign.cls = RX7 ∧ yX7_isSign.cls ≠ "java/lang/invoke/MethodHandle" ∧ yX7_isSign.cls ≠ "java/lang/invoke/VarHandle" ∧ (parseMethodDescriptor yX7_isSign.desc).map (fun d => d.parameters.length) = some 1 := by decide +kernel
theorem kmw_isSign {X : JC} {Q : State → Prop} {nL k n pc : Nat} {lv : List (Nat × Value)} {st : List Value} {own : String} {cc : ByteArray} {ret : Option FieldType} {F LL mc ms ix : Nat} {D : va_G} {dA ad : Nat → Nat} {x1 : Int32} {u : MS} {Post : Int32 → MS → Prop} (hX : JX X own cc nL ret F LL mc ms) (hK : KM D dA (jj_s X)) (hD : MD ad) (hlk : (Cond.methodLink own ix yX7_isSign) ∈ lw_all) (hF : 0 + 1 ≤ F) (hL : 8 + (2 + 11) + 0 ≤ LL) (hk : k ≤ mc) (hk2 : n ≤ ms) (hw : (st.map fun v => v.category).sum ≤ 8) (d : decode cc pc = .ok (.invokevirtual ix, 3)) (q : Nat) (hq : pc + 3 = q) (h : mw_isSign x1 u Post) (kk : ∀ (r : Int32) (u2 : MS), jj_z r → Post r u2 → JJ X (AM ad) Q nL (MW D dA ad u2) k n q lv (.int r :: st)) : JJ X (AM ad) Q nL (MW D dA ad u) k n pc lv (.int x1 :: .ref (ad 0) :: st) :=
  jm_callz (na := 1) (As := [.int x1]) hX hK (mmw_isSign (jj_l X) D dA ad hD x1 u Post h) hlk q1734 qs71 q129 q1735 hd_mw_isSign rfl rfl hw hF hL hk hk2 d q hq kk
def mw_likeRule_L45_S (Post : Int32 → MS → Prop) (x1 : Int32) (x2 : Int32) (R : Int32 → Int32 → MS → Prop) (x3 : Int32) (x4 : Int32) (u : MS) : Prop :=
  vp_in x1 19800 ∧
  ((jm_i u 1 x1.toNatClampNeg) ≤ x4 →
    jj_z x3 ∧ Post x3 u) ∧
  (¬ (jm_i u 1 x1.toNatClampNeg) ≤ x4 →
    (x3 = 0 →
      jj_z x3 ∧ Post x3 u) ∧
    (¬ x3 = 0 →
      vp_in ((x1 + (1 : Int32)) + x4) 19800 ∧
      vp_in ((x2 + (1 : Int32)) + x4) 19800 ∧
      (¬ (jm_i u 1 ((x1 + (1 : Int32)) + x4).toNatClampNeg) = (jm_i u 1 ((x2 + (1 : Int32)) + x4).toNatClampNeg) →
        ∀ v91 : Int32, v91 = x4 + (1 : Int32) →
        R (0 : Int32) v91 u) ∧
      ((jm_i u 1 ((x1 + (1 : Int32)) + x4).toNatClampNeg) = (jm_i u 1 ((x2 + (1 : Int32)) + x4).toNatClampNeg) →
        ∀ v91 : Int32, v91 = x4 + (1 : Int32) →
        R (1 : Int32) v91 u)))
def mw_likeRule_L45 (Post : Int32 → MS → Prop) (x1 : Int32) (x2 : Int32) : Nat → Int32 → Int32 → MS → Prop
  | 0 => fun _ _ _ => False
  | n + 1 => fun x3 x4 u => mw_likeRule_L45_S Post x1 x2 (mw_likeRule_L45 Post x1 x2 n) x3 x4 u
/-- RaisedPressModel.likeRule(II)Z -/
def mw_likeRule (x1 : Int32) (x2 : Int32) (u : MS) (Post : Int32 → MS → Prop) : Prop :=
  vp_in x1 19800 ∧
  vp_in x2 19800 ∧
  (¬ (jm_i u 1 x1.toNatClampNeg) = (jm_i u 1 x2.toNatClampNeg) →
    ∃ n, mw_likeRule_L45 Post x1 x2 n (0 : Int32) (0 : Int32) u) ∧
  ((jm_i u 1 x1.toNatClampNeg) = (jm_i u 1 x2.toNatClampNeg) →
    vp_in (x1 + (11 : Int32)) 19800 ∧
    vp_in (x2 + (11 : Int32)) 19800 ∧
    (¬ (jm_i u 1 (x1 + (11 : Int32)).toNatClampNeg) = (jm_i u 1 (x2 + (11 : Int32)).toNatClampNeg) →
      ∃ n, mw_likeRule_L45 Post x1 x2 n (0 : Int32) (0 : Int32) u) ∧
    ((jm_i u 1 (x1 + (11 : Int32)).toNatClampNeg) = (jm_i u 1 (x2 + (11 : Int32)).toNatClampNeg) →
      ∃ n, mw_likeRule_L45 Post x1 x2 n (1 : Int32) (0 : Int32) u))
set_option maxHeartbeats 4000000 in
set_option maxRecDepth 100000 in
theorem tmw_likeRule_L45 {X : JC} {D : va_G} {dA ad : Nat → Nat} {Post : Int32 → MS → Prop} {x1 : Int32} {x2 : Int32} (hX : JX X yX7_likeRule.cls cX7_likeRule 5 (Option.some Jvm.ClassFile.FieldType.boolean) 0 0 0 0) (hK : KM D dA (jj_s X)) (hD : MD ad) : ∀ (n : Nat) (x3 : Int32) (x4 : Int32) (u : MS), mw_likeRule_L45 Post x1 x2 n x3 x4 u → JJ X (AM ad) (jj_Q X (va_Qi (fun r u => Post r u ∧ jj_z r) (jm_B D dA ad) (AM ad)) 0 0 (AM ad)) 5 (MW D dA ad u) 0 0 45 [(0, .ref (ad 0)), (1, .int x1), (2, .int x2), (3, .int x3), (4, .int x4)] [] := by
  intro n
  induction n with
  | zero =>
    intro x3 x4 u h
    exact h.elim
  | succ n ih =>
    intro x3 x4 u h
    have h : mw_likeRule_L45_S Post x1 x2 (mw_likeRule_L45 Post x1 x2 n) x3 x4 u := h
    unfold mw_likeRule_L45_S at h
    refine jj_iload hX dX7_likeRule_45 4 rfl 47 rfl ?_
    refine jt_0 hX hK dX7_likeRule_47 0 rfl dX7_likeRule_48 q1484 51 rfl rfl ?_
    refine jj_iload_n hX dX7_likeRule_51 1 rfl 52 rfl ?_
    obtain ⟨hi52, h⟩ := h
    refine jr_1 hX hK _ rfl hi52 dX7_likeRule_52 53 rfl ?_
    refine jj_icmp_ge hX dX7_likeRule_53 97 56 (by decide) rfl (fun c53 => ?_) (fun c53 => ?_)
    · have h := h.1 c53
      refine jj_iload_n hX dX7_likeRule_97 3 rfl 98 rfl ?_
      obtain ⟨hz98, h⟩ := h
      exact jj_retz (post := Post) (u := u) hX dX7_likeRule_98 (Nat.le_refl 0) (Nat.le_refl 0) jm_hB hz98 h
    · have h := h.2 c53
      refine jj_iload_n hX dX7_likeRule_56 3 rfl 57 rfl ?_
      refine jj_if_eq hX dX7_likeRule_57 97 60 (by decide) rfl (fun c57 => ?_) (fun c57 => ?_)
      · have h := h.1 c57
        refine jj_iload_n hX dX7_likeRule_97 3 rfl 98 rfl ?_
        obtain ⟨hz98, h⟩ := h
        exact jj_retz (post := Post) (u := u) hX dX7_likeRule_98 (Nat.le_refl 0) (Nat.le_refl 0) jm_hB hz98 h
      · have h := h.2 c57
        refine jt_0 hX hK dX7_likeRule_60 0 rfl dX7_likeRule_61 q1484 64 rfl rfl ?_
        refine jj_iload_n hX dX7_likeRule_64 1 rfl 65 rfl ?_
        refine jj_iconst hX dX7_likeRule_65 ci_1 66 rfl ?_
        refine jj_iadd hX dX7_likeRule_66 67 rfl ?_
        refine jj_iload hX dX7_likeRule_67 4 rfl 69 rfl ?_
        refine jj_iadd hX dX7_likeRule_69 70 rfl ?_
        obtain ⟨hi70, h⟩ := h
        refine jr_1 hX hK _ rfl hi70 dX7_likeRule_70 71 rfl ?_
        refine jt_0 hX hK dX7_likeRule_71 0 rfl dX7_likeRule_72 q1484 75 rfl rfl ?_
        refine jj_iload_n hX dX7_likeRule_75 2 rfl 76 rfl ?_
        refine jj_iconst hX dX7_likeRule_76 ci_1 77 rfl ?_
        refine jj_iadd hX dX7_likeRule_77 78 rfl ?_
        refine jj_iload hX dX7_likeRule_78 4 rfl 80 rfl ?_
        refine jj_iadd hX dX7_likeRule_80 81 rfl ?_
        obtain ⟨hi81, h⟩ := h
        refine jr_1 hX hK _ rfl hi81 dX7_likeRule_81 82 rfl ?_
        refine jj_icmp_ne hX dX7_likeRule_82 89 85 (by decide) rfl (fun c82 => ?_) (fun c82 => ?_)
        · have h := h.1 c82
          refine jj_iconst hX dX7_likeRule_89 ci_0 90 rfl ?_
          refine jj_istore_n (lv2 := [(0, .ref (ad 0)), (1, .int x1), (2, .int x2), (3, .int (0 : Int32)), (4, .int x4)]) hX dX7_likeRule_90 (Nat.le_of_ble_eq_true rfl) [1, 2, 3, 0, 4] rfl 91 rfl ?_
          obtain ⟨v91, e91⟩ : ∃ y : Int32, y = x4 + (1 : Int32) := ⟨_, rfl⟩
          have h := h v91 e91
          refine jj_iinc (v := v91) (lv2 := [(0, .ref (ad 0)), (1, .int x1), (2, .int x2), (3, .int (0 : Int32)), (4, .int v91)]) hX dX7_likeRule_91 4 rfl (by rw [e91, ci_1]) (Nat.le_of_ble_eq_true rfl) [1, 2, 3, 4, 0] rfl 94 rfl ?_
          refine jj_goto hX dX7_likeRule_94 45 (by decide) ?_
          exact ih _ _ _ h
        · have h := h.2 c82
          refine jj_iconst hX dX7_likeRule_85 ci_1 86 rfl ?_
          refine jj_goto hX dX7_likeRule_86 90 (by decide) ?_
          refine jj_istore_n (lv2 := [(0, .ref (ad 0)), (1, .int x1), (2, .int x2), (3, .int (1 : Int32)), (4, .int x4)]) hX dX7_likeRule_90 (Nat.le_of_ble_eq_true rfl) [1, 2, 3, 0, 4] rfl 91 rfl ?_
          obtain ⟨v91, e91⟩ : ∃ y : Int32, y = x4 + (1 : Int32) := ⟨_, rfl⟩
          have h := h v91 e91
          refine jj_iinc (v := v91) (lv2 := [(0, .ref (ad 0)), (1, .int x1), (2, .int x2), (3, .int (1 : Int32)), (4, .int v91)]) hX dX7_likeRule_91 4 rfl (by rw [e91, ci_1]) (Nat.le_of_ble_eq_true rfl) [1, 2, 3, 4, 0] rfl 94 rfl ?_
          refine jj_goto hX dX7_likeRule_94 45 (by decide) ?_
          exact ih _ _ _ h
set_option maxHeartbeats 4000000 in
set_option maxRecDepth 100000 in
theorem mmw_likeRule (l : Launch) (D : va_G) (dA ad : Nat → Nat) (hD : MD ad) (x1 : Int32) (x2 : Int32) (u : MS) (Post : Int32 → MS → Prop) (h : mw_likeRule x1 x2 u Post) : Met l yX7_likeRule (ws_ yX7_likeRule cX7_likeRule 5 (Option.some Jvm.ClassFile.FieldType.boolean)) (jm_rm 0 0) (jm_Pc D dA ad u [.int x1, .int x2]) (va_Qi (fun r u => Post r u ∧ jj_z r) (jm_B D dA ad) (AM ad)) 0 0 (AM ad) := by
  refine jm_start [.int x1, .int x2] [(0, .ref (ad 0)), (1, .int x1), (2, .int x2)] (by decide) (Nat.le_of_ble_eq_true rfl) rfl (fun X hX hK => ?_)
  unfold mw_likeRule at h
  refine jt_0 hX hK dX7_likeRule_0 0 rfl dX7_likeRule_1 q1484 4 rfl rfl ?_
  refine jj_iload_n hX dX7_likeRule_4 1 rfl 5 rfl ?_
  obtain ⟨hi5, h⟩ := h
  refine jr_1 hX hK _ rfl hi5 dX7_likeRule_5 6 rfl ?_
  refine jt_0 hX hK dX7_likeRule_6 0 rfl dX7_likeRule_7 q1484 10 rfl rfl ?_
  refine jj_iload_n hX dX7_likeRule_10 2 rfl 11 rfl ?_
  obtain ⟨hi11, h⟩ := h
  refine jr_1 hX hK _ rfl hi11 dX7_likeRule_11 12 rfl ?_
  refine jj_icmp_ne hX dX7_likeRule_12 40 15 (by decide) rfl (fun c12 => ?_) (fun c12 => ?_)
  · have h := h.1 c12
    refine jj_iconst hX dX7_likeRule_40 ci_0 41 rfl ?_
    refine jj_istore_n (lv2 := [(0, .ref (ad 0)), (1, .int x1), (2, .int x2), (3, .int (0 : Int32))]) hX dX7_likeRule_41 (Nat.le_of_ble_eq_true rfl) [1, 2, 3, 0] rfl 42 rfl ?_
    refine jj_iconst hX dX7_likeRule_42 ci_0 43 rfl ?_
    refine jj_istore (lv2 := [(0, .ref (ad 0)), (1, .int x1), (2, .int x2), (3, .int (0 : Int32)), (4, .int (0 : Int32))]) hX dX7_likeRule_43 (Nat.le_of_ble_eq_true rfl) [1, 2, 3, 4, 0] rfl 45 rfl ?_
    obtain ⟨n9, h⟩ := h
    exact tmw_likeRule_L45 hX hK hD n9 _ _ _ h
  · have h := h.2 c12
    refine jt_0 hX hK dX7_likeRule_15 0 rfl dX7_likeRule_16 q1484 19 rfl rfl ?_
    refine jj_iload_n hX dX7_likeRule_19 1 rfl 20 rfl ?_
    refine jj_bipush hX dX7_likeRule_20 cb_11 22 rfl ?_
    refine jj_iadd hX dX7_likeRule_22 23 rfl ?_
    obtain ⟨hi23, h⟩ := h
    refine jr_1 hX hK _ rfl hi23 dX7_likeRule_23 24 rfl ?_
    refine jt_0 hX hK dX7_likeRule_24 0 rfl dX7_likeRule_25 q1484 28 rfl rfl ?_
    refine jj_iload_n hX dX7_likeRule_28 2 rfl 29 rfl ?_
    refine jj_bipush hX dX7_likeRule_29 cb_11 31 rfl ?_
    refine jj_iadd hX dX7_likeRule_31 32 rfl ?_
    obtain ⟨hi32, h⟩ := h
    refine jr_1 hX hK _ rfl hi32 dX7_likeRule_32 33 rfl ?_
    refine jj_icmp_ne hX dX7_likeRule_33 40 36 (by decide) rfl (fun c33 => ?_) (fun c33 => ?_)
    · have h := h.1 c33
      refine jj_iconst hX dX7_likeRule_40 ci_0 41 rfl ?_
      refine jj_istore_n (lv2 := [(0, .ref (ad 0)), (1, .int x1), (2, .int x2), (3, .int (0 : Int32))]) hX dX7_likeRule_41 (Nat.le_of_ble_eq_true rfl) [1, 2, 3, 0] rfl 42 rfl ?_
      refine jj_iconst hX dX7_likeRule_42 ci_0 43 rfl ?_
      refine jj_istore (lv2 := [(0, .ref (ad 0)), (1, .int x1), (2, .int x2), (3, .int (0 : Int32)), (4, .int (0 : Int32))]) hX dX7_likeRule_43 (Nat.le_of_ble_eq_true rfl) [1, 2, 3, 4, 0] rfl 45 rfl ?_
      obtain ⟨n9, h⟩ := h
      exact tmw_likeRule_L45 hX hK hD n9 _ _ _ h
    · have h := h.2 c33
      refine jj_iconst hX dX7_likeRule_36 ci_1 37 rfl ?_
      refine jj_goto hX dX7_likeRule_37 41 (by decide) ?_
      refine jj_istore_n (lv2 := [(0, .ref (ad 0)), (1, .int x1), (2, .int x2), (3, .int (1 : Int32))]) hX dX7_likeRule_41 (Nat.le_of_ble_eq_true rfl) [1, 2, 3, 0] rfl 42 rfl ?_
      refine jj_iconst hX dX7_likeRule_42 ci_0 43 rfl ?_
      refine jj_istore (lv2 := [(0, .ref (ad 0)), (1, .int x1), (2, .int x2), (3, .int (1 : Int32)), (4, .int (0 : Int32))]) hX dX7_likeRule_43 (Nat.le_of_ble_eq_true rfl) [1, 2, 3, 4, 0] rfl 45 rfl ?_
      obtain ⟨n9, h⟩ := h
      exact tmw_likeRule_L45 hX hK hD n9 _ _ _ h
theorem hd_mw_likeRule : yX7_likeRule.cls = RX7 ∧ yX7_likeRule.cls ≠ "java/lang/invoke/MethodHandle" ∧ yX7_likeRule.cls ≠ "java/lang/invoke/VarHandle" ∧ (parseMethodDescriptor yX7_likeRule.desc).map (fun d => d.parameters.length) = some 2 := by decide +kernel
theorem kmw_likeRule {X : JC} {Q : State → Prop} {nL k n pc : Nat} {lv : List (Nat × Value)} {st : List Value} {own : String} {cc : ByteArray} {ret : Option FieldType} {F LL mc ms ix : Nat} {D : va_G} {dA ad : Nat → Nat} {x1 : Int32} {x2 : Int32} {u : MS} {Post : Int32 → MS → Prop} (hX : JX X own cc nL ret F LL mc ms) (hK : KM D dA (jj_s X)) (hD : MD ad) (hlk : (Cond.methodLink own ix yX7_likeRule) ∈ lw_all) (hF : 0 + 1 ≤ F) (hL : 8 + (5 + 11) + 0 ≤ LL) (hk : k ≤ mc) (hk2 : n ≤ ms) (hw : (st.map fun v => v.category).sum ≤ 8) (d : decode cc pc = .ok (.invokevirtual ix, 3)) (q : Nat) (hq : pc + 3 = q) (h : mw_likeRule x1 x2 u Post) (kk : ∀ (r : Int32) (u2 : MS), jj_z r → Post r u2 → JJ X (AM ad) Q nL (MW D dA ad u2) k n q lv (.int r :: st)) : JJ X (AM ad) Q nL (MW D dA ad u) k n pc lv (.int x2 :: .int x1 :: .ref (ad 0) :: st) :=
  jm_callz (na := 2) (As := [.int x1, .int x2]) hX hK (mmw_likeRule (jj_l X) D dA ad hD x1 x2 u Post h) hlk q1738 qs72 q129 q1739 hd_mw_likeRule rfl rfl hw hF hL hk hk2 d q hq kk
/-- RaisedPressModel.wantSign(I)Z -/
def mw_wantSign (x1 : Int32) (u : MS) (Post : Int32 → MS → Prop) : Prop :=
  mw_isSign x1 u (fun r2 u2 =>
    (¬ r2 = 0 →
      mw_ahead u2 (fun u15 =>
        Post (1 : Int32) u15)) ∧
    (r2 = 0 →
      mw_fails (2 : Int32) u2 (fun r10 u10 =>
        Post r10 u10)))
set_option maxHeartbeats 4000000 in
set_option maxRecDepth 100000 in
theorem mmw_wantSign (l : Launch) (D : va_G) (dA ad : Nat → Nat) (hD : MD ad) (x1 : Int32) (u : MS) (Post : Int32 → MS → Prop) (h : mw_wantSign x1 u Post) : Met l yX7_wantSign (ws_ yX7_wantSign cX7_wantSign 2 (Option.some Jvm.ClassFile.FieldType.boolean)) (jm_rm 2 42) (jm_Pc D dA ad u [.int x1]) (va_Qi (fun r u => Post r u ∧ jj_z r) (jm_B D dA ad) (AM ad)) 0 0 (AM ad) := by
  refine jm_start [.int x1] [(0, .ref (ad 0)), (1, .int x1)] (by decide) (Nat.le_of_ble_eq_true rfl) rfl (fun X hX hK => ?_)
  unfold mw_wantSign at h
  refine jj_aload_n hX dX7_wantSign_0 0 rfl 1 rfl ?_
  refine jj_iload_n hX dX7_wantSign_1 1 rfl 2 rfl ?_
  refine kmw_isSign hX hK hD q1732 (Nat.le_of_ble_eq_true rfl) (Nat.le_of_ble_eq_true rfl) (Nat.zero_le _) (Nat.zero_le _) (Nat.le_of_ble_eq_true rfl) dX7_wantSign_2 5 rfl h (fun r2 u2 hb2 h => ?_)
  refine jj_if_ne hX dX7_wantSign_5 14 8 (by decide) rfl (fun c5 => ?_) (fun c5 => ?_)
  · have h := h.1 c5
    refine jj_aload_n hX dX7_wantSign_14 0 rfl 15 rfl ?_
    refine kmw_ahead hX hK hD q1686 (Nat.le_of_ble_eq_true rfl) (Nat.le_of_ble_eq_true rfl) (Nat.zero_le _) (Nat.zero_le _) (Nat.le_of_ble_eq_true rfl) dX7_wantSign_15 18 rfl h (fun u15 h => ?_)
    refine jj_iconst hX dX7_wantSign_18 ci_1 19 rfl ?_
    exact jj_retz (post := Post) (u := u15) hX dX7_wantSign_19 (Nat.le_refl 0) (Nat.le_refl 0) jm_hB jj_z1 h
  · have h := h.2 c5
    refine jj_aload_n hX dX7_wantSign_8 0 rfl 9 rfl ?_
    refine jj_iconst hX dX7_wantSign_9 ci_2 10 rfl ?_
    refine kmw_fails hX hK hD q1724 (Nat.le_of_ble_eq_true rfl) (Nat.le_of_ble_eq_true rfl) (Nat.zero_le _) (Nat.zero_le _) (Nat.le_of_ble_eq_true rfl) dX7_wantSign_10 13 rfl h (fun r10 u10 hb10 h => ?_)
    exact jj_retz (post := Post) (u := u10) hX dX7_wantSign_13 (Nat.le_refl 0) (Nat.le_refl 0) jm_hB hb10 h
theorem hd_mw_wantSign : yX7_wantSign.cls = RX7 ∧ yX7_wantSign.cls ≠ "java/lang/invoke/MethodHandle" ∧ yX7_wantSign.cls ≠ "java/lang/invoke/VarHandle" ∧ (parseMethodDescriptor yX7_wantSign.desc).map (fun d => d.parameters.length) = some 1 := by decide +kernel
theorem kmw_wantSign {X : JC} {Q : State → Prop} {nL k n pc : Nat} {lv : List (Nat × Value)} {st : List Value} {own : String} {cc : ByteArray} {ret : Option FieldType} {F LL mc ms ix : Nat} {D : va_G} {dA ad : Nat → Nat} {x1 : Int32} {u : MS} {Post : Int32 → MS → Prop} (hX : JX X own cc nL ret F LL mc ms) (hK : KM D dA (jj_s X)) (hD : MD ad) (hlk : (Cond.methodLink own ix yX7_wantSign) ∈ lw_all) (hF : 2 + 1 ≤ F) (hL : 8 + (2 + 11) + 42 ≤ LL) (hk : k ≤ mc) (hk2 : n ≤ ms) (hw : (st.map fun v => v.category).sum ≤ 8) (d : decode cc pc = .ok (.invokevirtual ix, 3)) (q : Nat) (hq : pc + 3 = q) (h : mw_wantSign x1 u Post) (kk : ∀ (r : Int32) (u2 : MS), jj_z r → Post r u2 → JJ X (AM ad) Q nL (MW D dA ad u2) k n q lv (.int r :: st)) : JJ X (AM ad) Q nL (MW D dA ad u) k n pc lv (.int x1 :: .ref (ad 0) :: st) :=
  jm_callz (na := 1) (As := [.int x1]) hX hK (mmw_wantSign (jj_l X) D dA ad hD x1 u Post h) hlk q1742 qs73 q129 q1743 hd_mw_wantSign rfl rfl hw hF hL hk hk2 d q hq kk
/-- RaisedPressModel.number(III)Z -/
def mw_number (x1 : Int32) (x2 : Int32) (x3 : Int32) (u : MS) (Post : Int32 → MS → Prop) : Prop :=
  ((jm_i u 0 11) = (3 : Int32) →
    ((jm_i u 0 14) < x2 →
      mw_fails (4 : Int32) u (fun r32 u32 =>
        Post r32 u32)) ∧
    (¬ (jm_i u 0 14) < x2 →
      ((jm_i u 0 14) ≤ x3 →
        vp_in x1 19800 ∧
        ∀ u45 : MS, u45 = jm_s u 1 x1.toNatClampNeg (jm_i u 0 14) →
        mw_ahead u45 (fun u47 =>
          Post (1 : Int32) u47)) ∧
      (¬ (jm_i u 0 14) ≤ x3 →
        mw_fails (4 : Int32) u (fun r32 u32 =>
          Post r32 u32)))) ∧
  (¬ (jm_i u 0 11) = (3 : Int32) →
    mw_fails (2 : Int32) u (fun r10 u10 =>
      Post r10 u10))
set_option maxHeartbeats 4000000 in
set_option maxRecDepth 100000 in
theorem mmw_number (l : Launch) (D : va_G) (dA ad : Nat → Nat) (hD : MD ad) (x1 : Int32) (x2 : Int32) (x3 : Int32) (u : MS) (Post : Int32 → MS → Prop) (h : mw_number x1 x2 x3 u Post) : Met l yX7_number (ws_ yX7_number cX7_number 4 (Option.some Jvm.ClassFile.FieldType.boolean)) (jm_rm 2 42) (jm_Pc D dA ad u [.int x1, .int x2, .int x3]) (va_Qi (fun r u => Post r u ∧ jj_z r) (jm_B D dA ad) (AM ad)) 0 0 (AM ad) := by
  refine jm_start [.int x1, .int x2, .int x3] [(0, .ref (ad 0)), (1, .int x1), (2, .int x2), (3, .int x3)] (by decide) (Nat.le_of_ble_eq_true rfl) rfl (fun X hX hK => ?_)
  unfold mw_number at h
  refine jt_11 hX hK dX7_number_0 0 rfl dX7_number_1 q1495 4 rfl rfl ?_
  refine jj_iconst hX dX7_number_4 ci_3 5 rfl ?_
  refine jj_icmp_eq hX dX7_number_5 14 8 (by decide) rfl (fun c5 => ?_) (fun c5 => ?_)
  · have h := h.1 c5
    refine jt_14 hX hK dX7_number_14 0 rfl dX7_number_15 q1498 18 rfl rfl ?_
    refine jj_iload_n hX dX7_number_18 2 rfl 19 rfl ?_
    refine jj_icmp_lt hX dX7_number_19 30 22 (by decide) rfl (fun c19 => ?_) (fun c19 => ?_)
    · have h := h.1 c19
      refine jj_aload_n hX dX7_number_30 0 rfl 31 rfl ?_
      refine jj_iconst hX dX7_number_31 ci_4 32 rfl ?_
      refine kmw_fails hX hK hD q1724 (Nat.le_of_ble_eq_true rfl) (Nat.le_of_ble_eq_true rfl) (Nat.zero_le _) (Nat.zero_le _) (Nat.le_of_ble_eq_true rfl) dX7_number_32 35 rfl h (fun r32 u32 hb32 h => ?_)
      exact jj_retz (post := Post) (u := u32) hX dX7_number_35 (Nat.le_refl 0) (Nat.le_refl 0) jm_hB hb32 h
    · have h := h.2 c19
      refine jt_14 hX hK dX7_number_22 0 rfl dX7_number_23 q1498 26 rfl rfl ?_
      refine jj_iload_n hX dX7_number_26 3 rfl 27 rfl ?_
      refine jj_icmp_le hX dX7_number_27 36 30 (by decide) rfl (fun c27 => ?_) (fun c27 => ?_)
      · have h := h.1 c27
        refine jt_0 hX hK dX7_number_36 0 rfl dX7_number_37 q1484 40 rfl rfl ?_
        refine jj_iload_n hX dX7_number_40 1 rfl 41 rfl ?_
        refine jt_14 hX hK dX7_number_41 0 rfl dX7_number_42 q1498 45 rfl rfl ?_
        obtain ⟨hi45, h⟩ := h
        refine jw_1 hX hK hD _ rfl hi45 dX7_number_45 46 rfl (fun u45 e45 => ?_)
        have h := h u45 e45
        refine jj_aload_n hX dX7_number_46 0 rfl 47 rfl ?_
        refine kmw_ahead hX hK hD q1686 (Nat.le_of_ble_eq_true rfl) (Nat.le_of_ble_eq_true rfl) (Nat.zero_le _) (Nat.zero_le _) (Nat.le_of_ble_eq_true rfl) dX7_number_47 50 rfl h (fun u47 h => ?_)
        refine jj_iconst hX dX7_number_50 ci_1 51 rfl ?_
        exact jj_retz (post := Post) (u := u47) hX dX7_number_51 (Nat.le_refl 0) (Nat.le_refl 0) jm_hB jj_z1 h
      · have h := h.2 c27
        refine jj_aload_n hX dX7_number_30 0 rfl 31 rfl ?_
        refine jj_iconst hX dX7_number_31 ci_4 32 rfl ?_
        refine kmw_fails hX hK hD q1724 (Nat.le_of_ble_eq_true rfl) (Nat.le_of_ble_eq_true rfl) (Nat.zero_le _) (Nat.zero_le _) (Nat.le_of_ble_eq_true rfl) dX7_number_32 35 rfl h (fun r32 u32 hb32 h => ?_)
        exact jj_retz (post := Post) (u := u32) hX dX7_number_35 (Nat.le_refl 0) (Nat.le_refl 0) jm_hB hb32 h
  · have h := h.2 c5
    refine jj_aload_n hX dX7_number_8 0 rfl 9 rfl ?_
    refine jj_iconst hX dX7_number_9 ci_2 10 rfl ?_
    refine kmw_fails hX hK hD q1724 (Nat.le_of_ble_eq_true rfl) (Nat.le_of_ble_eq_true rfl) (Nat.zero_le _) (Nat.zero_le _) (Nat.le_of_ble_eq_true rfl) dX7_number_10 13 rfl h (fun r10 u10 hb10 h => ?_)
    exact jj_retz (post := Post) (u := u10) hX dX7_number_13 (Nat.le_refl 0) (Nat.le_refl 0) jm_hB hb10 h
theorem hd_mw_number : yX7_number.cls = RX7 ∧ yX7_number.cls ≠ "java/lang/invoke/MethodHandle" ∧ yX7_number.cls ≠ "java/lang/invoke/VarHandle" ∧ (parseMethodDescriptor yX7_number.desc).map (fun d => d.parameters.length) = some 3 := by decide +kernel
theorem kmw_number {X : JC} {Q : State → Prop} {nL k n pc : Nat} {lv : List (Nat × Value)} {st : List Value} {own : String} {cc : ByteArray} {ret : Option FieldType} {F LL mc ms ix : Nat} {D : va_G} {dA ad : Nat → Nat} {x1 : Int32} {x2 : Int32} {x3 : Int32} {u : MS} {Post : Int32 → MS → Prop} (hX : JX X own cc nL ret F LL mc ms) (hK : KM D dA (jj_s X)) (hD : MD ad) (hlk : (Cond.methodLink own ix yX7_number) ∈ lw_all) (hF : 2 + 1 ≤ F) (hL : 8 + (4 + 11) + 42 ≤ LL) (hk : k ≤ mc) (hk2 : n ≤ ms) (hw : (st.map fun v => v.category).sum ≤ 8) (d : decode cc pc = .ok (.invokevirtual ix, 3)) (q : Nat) (hq : pc + 3 = q) (h : mw_number x1 x2 x3 u Post) (kk : ∀ (r : Int32) (u2 : MS), jj_z r → Post r u2 → JJ X (AM ad) Q nL (MW D dA ad u2) k n q lv (.int r :: st)) : JJ X (AM ad) Q nL (MW D dA ad u) k n pc lv (.int x3 :: .int x2 :: .int x1 :: .ref (ad 0) :: st) :=
  jm_callz (na := 3) (As := [.int x1, .int x2, .int x3]) hX hK (mmw_number (jj_l X) D dA ad hD x1 x2 x3 u Post h) hlk q1746 qs74 q129 q1747 hd_mw_number rfl rfl hw hF hL hk hk2 d q hq kk
/-- RaisedPressModel.gives(I)I -/
def mw_gives (x1 : Int32) (u : MS) (Post : Int32 → MS → Prop) : Prop :=
  ∀ u2 : MS, u2 = jm_s u 0 1 (0 : Int32) →
  Post x1 u2
set_option maxHeartbeats 4000000 in
set_option maxRecDepth 100000 in
theorem mmw_gives (l : Launch) (D : va_G) (dA ad : Nat → Nat) (hD : MD ad) (x1 : Int32) (u : MS) (Post : Int32 → MS → Prop) (h : mw_gives x1 u Post) : Met l yX7_gives (ws_ yX7_gives cX7_gives 2 (Option.some Jvm.ClassFile.FieldType.int)) (jm_rm 0 0) (jm_Pc D dA ad u [.int x1]) (va_Qi Post (jm_B D dA ad) (AM ad)) 0 0 (AM ad) := by
  refine jm_start [.int x1] [(0, .ref (ad 0)), (1, .int x1)] (by decide) (Nat.le_of_ble_eq_true rfl) rfl (fun X hX hK => ?_)
  unfold mw_gives at h
  refine jj_aload_n hX dX7_gives_0 0 rfl 1 rfl ?_
  refine jj_iconst hX dX7_gives_1 ci_0 2 rfl ?_
  refine jp_1 hX hK hD dX7_gives_2 q1485 5 rfl (fun u2 e2 => ?_)
  have h := h u2 e2
  refine jj_iload_n hX dX7_gives_5 1 rfl 6 rfl ?_
  exact jj_reti (post := Post) (u := u2) hX dX7_gives_6 (Nat.le_refl 0) (Nat.le_refl 0) jm_hB h
theorem hd_mw_gives : yX7_gives.cls = RX7 ∧ yX7_gives.cls ≠ "java/lang/invoke/MethodHandle" ∧ yX7_gives.cls ≠ "java/lang/invoke/VarHandle" ∧ (parseMethodDescriptor yX7_gives.desc).map (fun d => d.parameters.length) = some 1 := by decide +kernel
theorem kmw_gives {X : JC} {Q : State → Prop} {nL k n pc : Nat} {lv : List (Nat × Value)} {st : List Value} {own : String} {cc : ByteArray} {ret : Option FieldType} {F LL mc ms ix : Nat} {D : va_G} {dA ad : Nat → Nat} {x1 : Int32} {u : MS} {Post : Int32 → MS → Prop} (hX : JX X own cc nL ret F LL mc ms) (hK : KM D dA (jj_s X)) (hD : MD ad) (hlk : (Cond.methodLink own ix yX7_gives) ∈ lw_all) (hF : 0 + 1 ≤ F) (hL : 8 + (2 + 11) + 0 ≤ LL) (hk : k ≤ mc) (hk2 : n ≤ ms) (hw : (st.map fun v => v.category).sum ≤ 8) (d : decode cc pc = .ok (.invokevirtual ix, 3)) (q : Nat) (hq : pc + 3 = q) (h : mw_gives x1 u Post) (kk : ∀ (r : Int32) (u2 : MS), Post r u2 → JJ X (AM ad) Q nL (MW D dA ad u2) k n q lv (.int r :: st)) : JJ X (AM ad) Q nL (MW D dA ad u) k n pc lv (.int x1 :: .ref (ad 0) :: st) :=
  jm_calli (na := 1) (As := [.int x1]) hX hK (mmw_gives (jj_l X) D dA ad hD x1 u Post h) hlk q1754 qs76 q129 q1755 hd_mw_gives rfl rfl hw hF hL hk hk2 d q hq kk
/-- RaisedPressModel.taken(I)I -/
def mw_taken (x1 : Int32) (u : MS) (Post : Int32 → MS → Prop) : Prop :=
  ∀ u5 : MS, u5 = jm_s u 0 15 (jm_i u 0 17) →
  ((jm_i u5 0 17) ≤ 0 →
    mw_gives x1 u5 (fun r26 u26 =>
      Post r26 u26)) ∧
  (¬ (jm_i u5 0 17) ≤ 0 →
    mw_refuse (9 : Int32) u5 (fun r18 u18 =>
      Post r18 u18))
set_option maxHeartbeats 4000000 in
set_option maxRecDepth 100000 in
theorem mmw_taken (l : Launch) (D : va_G) (dA ad : Nat → Nat) (hD : MD ad) (x1 : Int32) (u : MS) (Post : Int32 → MS → Prop) (h : mw_taken x1 u Post) : Met l yX7_taken (ws_ yX7_taken cX7_taken 2 (Option.some Jvm.ClassFile.FieldType.int)) (jm_rm 1 21) (jm_Pc D dA ad u [.int x1]) (va_Qi Post (jm_B D dA ad) (AM ad)) 0 0 (AM ad) := by
  refine jm_start [.int x1] [(0, .ref (ad 0)), (1, .int x1)] (by decide) (Nat.le_of_ble_eq_true rfl) rfl (fun X hX hK => ?_)
  unfold mw_taken at h
  refine jj_aload_n hX dX7_taken_0 0 rfl 1 rfl ?_
  refine jt_17 hX hK dX7_taken_1 0 rfl dX7_taken_2 q1501 5 rfl rfl ?_
  refine jp_15 hX hK hD dX7_taken_5 q1499 8 rfl (fun u5 e5 => ?_)
  have h := h u5 e5
  refine jt_17 hX hK dX7_taken_8 0 rfl dX7_taken_9 q1501 12 rfl rfl ?_
  refine jj_if_le hX dX7_taken_12 24 15 (by decide) rfl (fun c12 => ?_) (fun c12 => ?_)
  · have h := h.1 c12
    refine jj_aload_n hX dX7_taken_24 0 rfl 25 rfl ?_
    refine jj_iload_n hX dX7_taken_25 1 rfl 26 rfl ?_
    refine kmw_gives hX hK hD q1752 (Nat.le_of_ble_eq_true rfl) (Nat.le_of_ble_eq_true rfl) (Nat.zero_le _) (Nat.zero_le _) (Nat.le_of_ble_eq_true rfl) dX7_taken_26 29 rfl h (fun r26 u26 h => ?_)
    exact jj_reti (post := Post) (u := u26) hX dX7_taken_29 (Nat.le_refl 0) (Nat.le_refl 0) jm_hB h
  · have h := h.2 c12
    refine jj_aload_n hX dX7_taken_15 0 rfl 16 rfl ?_
    refine jj_bipush hX dX7_taken_16 cb_9 18 rfl ?_
    refine kmw_refuse hX hK hD q1702 (Nat.le_of_ble_eq_true rfl) (Nat.le_of_ble_eq_true rfl) (Nat.zero_le _) (Nat.zero_le _) (Nat.le_of_ble_eq_true rfl) dX7_taken_18 21 rfl h (fun r18 u18 h => ?_)
    refine jj_goto hX dX7_taken_21 29 (by decide) ?_
    exact jj_reti (post := Post) (u := u18) hX dX7_taken_29 (Nat.le_refl 0) (Nat.le_refl 0) jm_hB h
theorem hd_mw_taken : yX7_taken.cls = RX7 ∧ yX7_taken.cls ≠ "java/lang/invoke/MethodHandle" ∧ yX7_taken.cls ≠ "java/lang/invoke/VarHandle" ∧ (parseMethodDescriptor yX7_taken.desc).map (fun d => d.parameters.length) = some 1 := by decide +kernel
theorem kmw_taken {X : JC} {Q : State → Prop} {nL k n pc : Nat} {lv : List (Nat × Value)} {st : List Value} {own : String} {cc : ByteArray} {ret : Option FieldType} {F LL mc ms ix : Nat} {D : va_G} {dA ad : Nat → Nat} {x1 : Int32} {u : MS} {Post : Int32 → MS → Prop} (hX : JX X own cc nL ret F LL mc ms) (hK : KM D dA (jj_s X)) (hD : MD ad) (hlk : (Cond.methodLink own ix yX7_taken) ∈ lw_all) (hF : 1 + 1 ≤ F) (hL : 8 + (2 + 11) + 21 ≤ LL) (hk : k ≤ mc) (hk2 : n ≤ ms) (hw : (st.map fun v => v.category).sum ≤ 8) (d : decode cc pc = .ok (.invokevirtual ix, 3)) (q : Nat) (hq : pc + 3 = q) (h : mw_taken x1 u Post) (kk : ∀ (r : Int32) (u2 : MS), Post r u2 → JJ X (AM ad) Q nL (MW D dA ad u2) k n q lv (.int r :: st)) : JJ X (AM ad) Q nL (MW D dA ad u) k n pc lv (.int x1 :: .ref (ad 0) :: st) :=
  jm_calli (na := 1) (As := [.int x1]) hX hK (mmw_taken (jj_l X) D dA ad hD x1 u Post h) hlk q1750 qs75 q129 q1751 hd_mw_taken rfl rfl hw hF hL hk hk2 d q hq kk
/-- RaisedPressModel.byteOf(I)I -/
def mw_byteOf (x1 : Int32) (u : MS) (Post : Int32 → MS → Prop) : Prop :=
  ((jm_i u 1 16507) ≤ x1 →
    Post (32 : Int32) u) ∧
  (¬ (jm_i u 1 16507) ≤ x1 →
    vp_in ((16800 : Int32) + x1) 19800 ∧
    Post (jm_i u 1 ((16800 : Int32) + x1).toNatClampNeg) u)
set_option maxHeartbeats 4000000 in
set_option maxRecDepth 100000 in
theorem mmw_byteOf (l : Launch) (D : va_G) (dA ad : Nat → Nat) (hD : MD ad) (x1 : Int32) (u : MS) (Post : Int32 → MS → Prop) (h : mw_byteOf x1 u Post) : Met l yX7_byteOf (ws_ yX7_byteOf cX7_byteOf 2 (Option.some Jvm.ClassFile.FieldType.int)) (jm_rm 0 0) (jm_Pc D dA ad u [.int x1]) (va_Qi Post (jm_B D dA ad) (AM ad)) 0 0 (AM ad) := by
  refine jm_start [.int x1] [(0, .ref (ad 0)), (1, .int x1)] (by decide) (Nat.le_of_ble_eq_true rfl) rfl (fun X hX hK => ?_)
  unfold mw_byteOf at h
  refine jj_iload_n hX dX7_byteOf_0 1 rfl 1 rfl ?_
  refine jt_0 hX hK dX7_byteOf_1 0 rfl dX7_byteOf_2 q1484 5 rfl rfl ?_
  refine jj_sipush hX dX7_byteOf_5 cs_16507 8 rfl ?_
  refine jr_1 hX hK 16507 kc_16507 vi_1_16507 dX7_byteOf_8 9 rfl ?_
  refine jj_icmp_ge hX dX7_byteOf_9 25 12 (by decide) rfl (fun c9 => ?_) (fun c9 => ?_)
  · have h := h.1 c9
    refine jj_bipush hX dX7_byteOf_25 cb_32 27 rfl ?_
    exact jj_reti (post := Post) (u := u) hX dX7_byteOf_27 (Nat.le_refl 0) (Nat.le_refl 0) jm_hB h
  · have h := h.2 c9
    refine jt_0 hX hK dX7_byteOf_12 0 rfl dX7_byteOf_13 q1484 16 rfl rfl ?_
    refine jj_sipush hX dX7_byteOf_16 cs_16800 19 rfl ?_
    refine jj_iload_n hX dX7_byteOf_19 1 rfl 20 rfl ?_
    refine jj_iadd hX dX7_byteOf_20 21 rfl ?_
    obtain ⟨hi21, h⟩ := h
    refine jr_1 hX hK _ rfl hi21 dX7_byteOf_21 22 rfl ?_
    refine jj_goto hX dX7_byteOf_22 27 (by decide) ?_
    exact jj_reti (post := Post) (u := u) hX dX7_byteOf_27 (Nat.le_refl 0) (Nat.le_refl 0) jm_hB h
theorem hd_mw_byteOf : yX7_byteOf.cls = RX7 ∧ yX7_byteOf.cls ≠ "java/lang/invoke/MethodHandle" ∧ yX7_byteOf.cls ≠ "java/lang/invoke/VarHandle" ∧ (parseMethodDescriptor yX7_byteOf.desc).map (fun d => d.parameters.length) = some 1 := by decide +kernel
theorem kmw_byteOf {X : JC} {Q : State → Prop} {nL k n pc : Nat} {lv : List (Nat × Value)} {st : List Value} {own : String} {cc : ByteArray} {ret : Option FieldType} {F LL mc ms ix : Nat} {D : va_G} {dA ad : Nat → Nat} {x1 : Int32} {u : MS} {Post : Int32 → MS → Prop} (hX : JX X own cc nL ret F LL mc ms) (hK : KM D dA (jj_s X)) (hD : MD ad) (hlk : (Cond.methodLink own ix yX7_byteOf) ∈ lw_all) (hF : 0 + 1 ≤ F) (hL : 8 + (2 + 11) + 0 ≤ LL) (hk : k ≤ mc) (hk2 : n ≤ ms) (hw : (st.map fun v => v.category).sum ≤ 8) (d : decode cc pc = .ok (.invokevirtual ix, 3)) (q : Nat) (hq : pc + 3 = q) (h : mw_byteOf x1 u Post) (kk : ∀ (r : Int32) (u2 : MS), Post r u2 → JJ X (AM ad) Q nL (MW D dA ad u2) k n q lv (.int r :: st)) : JJ X (AM ad) Q nL (MW D dA ad u) k n pc lv (.int x1 :: .ref (ad 0) :: st) :=
  jm_calli (na := 1) (As := [.int x1]) hX hK (mmw_byteOf (jj_l X) D dA ad hD x1 u Post h) hlk q1766 qs78 q129 q1767 hd_mw_byteOf rfl rfl hw hF hL hk hk2 d q hq kk
/-- RaisedPressModel.isBlank(I)Z -/
def mw_isBlank (x0 : Int32) (Post : Int32 → Prop) : Prop :=
  (x0 = (10 : Int32) →
    Post (1 : Int32)) ∧
  (¬ x0 = (10 : Int32) →
    (¬ x0 = (32 : Int32) →
      Post (0 : Int32)) ∧
    (x0 = (32 : Int32) →
      Post (1 : Int32)))
set_option maxHeartbeats 4000000 in
set_option maxRecDepth 100000 in
theorem mmw_isBlank (l : Launch) (x0 : Int32) (Post : Int32 → Prop) (h : mw_isBlank x0 Post) : Met l yX7_isBlank (ws_ yX7_isBlank cX7_isBlank 1 (Option.some Jvm.ClassFile.FieldType.boolean)) (jm_rm 0 0) (js_Pc [.int x0]) (va_Qi (fun r (_ : Unit) => Post r ∧ jj_z r) js_B js_A) 0 0 js_A := by
  refine js_start [.int x0] [(0, .int x0)] (by decide) (Nat.le_of_ble_eq_true rfl) rfl (fun X hX => ?_)
  unfold mw_isBlank at h
  refine jj_iload_n hX dX7_isBlank_0 0 rfl 1 rfl ?_
  refine jj_bipush hX dX7_isBlank_1 cb_10 3 rfl ?_
  refine jj_icmp_eq hX dX7_isBlank_3 12 6 (by decide) rfl (fun c3 => ?_) (fun c3 => ?_)
  · have h := h.1 c3
    refine jj_iconst hX dX7_isBlank_12 ci_1 13 rfl ?_
    refine jj_goto hX dX7_isBlank_13 17 (by decide) ?_
    exact jj_retz (post := (fun r (_ : Unit) => Post r)) (u := ()) hX dX7_isBlank_17 (Nat.le_refl 0) (Nat.le_refl 0) js_hB jj_z1 h
  · have h := h.2 c3
    refine jj_iload_n hX dX7_isBlank_6 0 rfl 7 rfl ?_
    refine jj_bipush hX dX7_isBlank_7 cb_32 9 rfl ?_
    refine jj_icmp_ne hX dX7_isBlank_9 16 12 (by decide) rfl (fun c9 => ?_) (fun c9 => ?_)
    · have h := h.1 c9
      refine jj_iconst hX dX7_isBlank_16 ci_0 17 rfl ?_
      exact jj_retz (post := (fun r (_ : Unit) => Post r)) (u := ()) hX dX7_isBlank_17 (Nat.le_refl 0) (Nat.le_refl 0) js_hB jj_z0 h
    · have h := h.2 c9
      refine jj_iconst hX dX7_isBlank_12 ci_1 13 rfl ?_
      refine jj_goto hX dX7_isBlank_13 17 (by decide) ?_
      exact jj_retz (post := (fun r (_ : Unit) => Post r)) (u := ()) hX dX7_isBlank_17 (Nat.le_refl 0) (Nat.le_refl 0) js_hB jj_z1 h
theorem hd_mw_isBlank : yX7_isBlank.cls ≠ "java/lang/invoke/MethodHandle" ∧ yX7_isBlank.cls ≠ "java/lang/invoke/VarHandle" ∧ (parseMethodDescriptor yX7_isBlank.desc).map (fun d => d.parameters.length) = some 1 := by decide +kernel
theorem kmw_isBlank {X : JC} {A : Nat → Prop} {Q : State → Prop} {P : Heap → Prop} {nL k n pc : Nat} {lv : List (Nat × Value)} {st : List Value} {own : String} {cc : ByteArray} {ret : Option FieldType} {F LL mc ms ix : Nat} {x0 : Int32} {Post : Int32 → Prop} (hX : JX X own cc nL ret F LL mc ms) (hKP : jj_Keeps P) (hlk : (Cond.methodLink own ix yX7_isBlank) ∈ lw_all) (hF : 0 + 1 ≤ F) (hL : 8 + (1 + 11) + 0 ≤ LL) (hk : k ≤ mc) (hk2 : n ≤ ms) (hw : (st.map fun v => v.category).sum ≤ 8) (d : decode cc pc = .ok (.invokestatic ix, 3)) (q : Nat) (hq : pc + 3 = q) (h : mw_isBlank x0 Post) (kk : ∀ r : Int32, jj_z r → Post r → JJ X A Q nL P k n q lv (.int r :: st)) : JJ X A Q nL P k n pc lv (.int x0 :: st) :=
  js_callz (na := 1) (As := [.int x0]) hX hKP (mmw_isBlank (jj_l X) x0 Post h) hlk q1769 q129 q1770 hd_mw_isBlank rfl rfl hw hF hL hk hk2 d q hq kk
/-- RaisedPressModel.isGreat(I)Z -/
def mw_isGreat (x0 : Int32) (Post : Int32 → Prop) : Prop :=
  (x0 < (65 : Int32) →
    Post (0 : Int32)) ∧
  (¬ x0 < (65 : Int32) →
    ((90 : Int32) < x0 →
      Post (0 : Int32)) ∧
    (¬ (90 : Int32) < x0 →
      Post (1 : Int32)))
set_option maxHeartbeats 4000000 in
set_option maxRecDepth 100000 in
theorem mmw_isGreat (l : Launch) (x0 : Int32) (Post : Int32 → Prop) (h : mw_isGreat x0 Post) : Met l yX7_isGreat (ws_ yX7_isGreat cX7_isGreat 1 (Option.some Jvm.ClassFile.FieldType.boolean)) (jm_rm 0 0) (js_Pc [.int x0]) (va_Qi (fun r (_ : Unit) => Post r ∧ jj_z r) js_B js_A) 0 0 js_A := by
  refine js_start [.int x0] [(0, .int x0)] (by decide) (Nat.le_of_ble_eq_true rfl) rfl (fun X hX => ?_)
  unfold mw_isGreat at h
  refine jj_iload_n hX dX7_isGreat_0 0 rfl 1 rfl ?_
  refine jj_bipush hX dX7_isGreat_1 cb_65 3 rfl ?_
  refine jj_icmp_lt hX dX7_isGreat_3 16 6 (by decide) rfl (fun c3 => ?_) (fun c3 => ?_)
  · have h := h.1 c3
    refine jj_iconst hX dX7_isGreat_16 ci_0 17 rfl ?_
    exact jj_retz (post := (fun r (_ : Unit) => Post r)) (u := ()) hX dX7_isGreat_17 (Nat.le_refl 0) (Nat.le_refl 0) js_hB jj_z0 h
  · have h := h.2 c3
    refine jj_iload_n hX dX7_isGreat_6 0 rfl 7 rfl ?_
    refine jj_bipush hX dX7_isGreat_7 cb_90 9 rfl ?_
    refine jj_icmp_gt hX dX7_isGreat_9 16 12 (by decide) rfl (fun c9 => ?_) (fun c9 => ?_)
    · have h := h.1 c9
      refine jj_iconst hX dX7_isGreat_16 ci_0 17 rfl ?_
      exact jj_retz (post := (fun r (_ : Unit) => Post r)) (u := ()) hX dX7_isGreat_17 (Nat.le_refl 0) (Nat.le_refl 0) js_hB jj_z0 h
    · have h := h.2 c9
      refine jj_iconst hX dX7_isGreat_12 ci_1 13 rfl ?_
      refine jj_goto hX dX7_isGreat_13 17 (by decide) ?_
      exact jj_retz (post := (fun r (_ : Unit) => Post r)) (u := ()) hX dX7_isGreat_17 (Nat.le_refl 0) (Nat.le_refl 0) js_hB jj_z1 h
theorem hd_mw_isGreat : yX7_isGreat.cls ≠ "java/lang/invoke/MethodHandle" ∧ yX7_isGreat.cls ≠ "java/lang/invoke/VarHandle" ∧ (parseMethodDescriptor yX7_isGreat.desc).map (fun d => d.parameters.length) = some 1 := by decide +kernel
theorem kmw_isGreat {X : JC} {A : Nat → Prop} {Q : State → Prop} {P : Heap → Prop} {nL k n pc : Nat} {lv : List (Nat × Value)} {st : List Value} {own : String} {cc : ByteArray} {ret : Option FieldType} {F LL mc ms ix : Nat} {x0 : Int32} {Post : Int32 → Prop} (hX : JX X own cc nL ret F LL mc ms) (hKP : jj_Keeps P) (hlk : (Cond.methodLink own ix yX7_isGreat) ∈ lw_all) (hF : 0 + 1 ≤ F) (hL : 8 + (1 + 11) + 0 ≤ LL) (hk : k ≤ mc) (hk2 : n ≤ ms) (hw : (st.map fun v => v.category).sum ≤ 8) (d : decode cc pc = .ok (.invokestatic ix, 3)) (q : Nat) (hq : pc + 3 = q) (h : mw_isGreat x0 Post) (kk : ∀ r : Int32, jj_z r → Post r → JJ X A Q nL P k n q lv (.int r :: st)) : JJ X A Q nL P k n pc lv (.int x0 :: st) :=
  js_callz (na := 1) (As := [.int x0]) hX hKP (mmw_isGreat (jj_l X) x0 Post h) hlk q1775 q129 q1776 hd_mw_isGreat rfl rfl hw hF hL hk hk2 d q hq kk
/-- RaisedPressModel.isLetter(I)Z -/
def mw_isLetter (x0 : Int32) (Post : Int32 → Prop) : Prop :=
  mw_isGreat x0 (fun r1 =>
    (¬ r1 = 0 →
      Post (1 : Int32)) ∧
    (r1 = 0 →
      (x0 < (97 : Int32) →
        Post (0 : Int32)) ∧
      (¬ x0 < (97 : Int32) →
        ((122 : Int32) < x0 →
          Post (0 : Int32)) ∧
        (¬ (122 : Int32) < x0 →
          Post (1 : Int32)))))
set_option maxHeartbeats 4000000 in
set_option maxRecDepth 100000 in
theorem mmw_isLetter (l : Launch) (x0 : Int32) (Post : Int32 → Prop) (h : mw_isLetter x0 Post) : Met l yX7_isLetter (ws_ yX7_isLetter cX7_isLetter 1 (Option.some Jvm.ClassFile.FieldType.boolean)) (jm_rm 1 20) (js_Pc [.int x0]) (va_Qi (fun r (_ : Unit) => Post r ∧ jj_z r) js_B js_A) 0 0 js_A := by
  refine js_start [.int x0] [(0, .int x0)] (by decide) (Nat.le_of_ble_eq_true rfl) rfl (fun X hX => ?_)
  unfold mw_isLetter at h
  refine jj_iload_n hX dX7_isLetter_0 0 rfl 1 rfl ?_
  refine kmw_isGreat hX js_keepP q1774 (Nat.le_of_ble_eq_true rfl) (Nat.le_of_ble_eq_true rfl) (Nat.zero_le _) (Nat.zero_le _) (Nat.le_of_ble_eq_true rfl) dX7_isLetter_1 4 rfl h (fun r1 hb1 h => ?_)
  refine jj_if_ne hX dX7_isLetter_4 19 7 (by decide) rfl (fun c4 => ?_) (fun c4 => ?_)
  · have h := h.1 c4
    refine jj_iconst hX dX7_isLetter_19 ci_1 20 rfl ?_
    refine jj_goto hX dX7_isLetter_20 24 (by decide) ?_
    exact jj_retz (post := (fun r (_ : Unit) => Post r)) (u := ()) hX dX7_isLetter_24 (Nat.le_refl 0) (Nat.le_refl 0) js_hB jj_z1 h
  · have h := h.2 c4
    refine jj_iload_n hX dX7_isLetter_7 0 rfl 8 rfl ?_
    refine jj_bipush hX dX7_isLetter_8 cb_97 10 rfl ?_
    refine jj_icmp_lt hX dX7_isLetter_10 23 13 (by decide) rfl (fun c10 => ?_) (fun c10 => ?_)
    · have h := h.1 c10
      refine jj_iconst hX dX7_isLetter_23 ci_0 24 rfl ?_
      exact jj_retz (post := (fun r (_ : Unit) => Post r)) (u := ()) hX dX7_isLetter_24 (Nat.le_refl 0) (Nat.le_refl 0) js_hB jj_z0 h
    · have h := h.2 c10
      refine jj_iload_n hX dX7_isLetter_13 0 rfl 14 rfl ?_
      refine jj_bipush hX dX7_isLetter_14 cb_122 16 rfl ?_
      refine jj_icmp_gt hX dX7_isLetter_16 23 19 (by decide) rfl (fun c16 => ?_) (fun c16 => ?_)
      · have h := h.1 c16
        refine jj_iconst hX dX7_isLetter_23 ci_0 24 rfl ?_
        exact jj_retz (post := (fun r (_ : Unit) => Post r)) (u := ()) hX dX7_isLetter_24 (Nat.le_refl 0) (Nat.le_refl 0) js_hB jj_z0 h
      · have h := h.2 c16
        refine jj_iconst hX dX7_isLetter_19 ci_1 20 rfl ?_
        refine jj_goto hX dX7_isLetter_20 24 (by decide) ?_
        exact jj_retz (post := (fun r (_ : Unit) => Post r)) (u := ()) hX dX7_isLetter_24 (Nat.le_refl 0) (Nat.le_refl 0) js_hB jj_z1 h
theorem hd_mw_isLetter : yX7_isLetter.cls ≠ "java/lang/invoke/MethodHandle" ∧ yX7_isLetter.cls ≠ "java/lang/invoke/VarHandle" ∧ (parseMethodDescriptor yX7_isLetter.desc).map (fun d => d.parameters.length) = some 1 := by decide +kernel
theorem kmw_isLetter {X : JC} {A : Nat → Prop} {Q : State → Prop} {P : Heap → Prop} {nL k n pc : Nat} {lv : List (Nat × Value)} {st : List Value} {own : String} {cc : ByteArray} {ret : Option FieldType} {F LL mc ms ix : Nat} {x0 : Int32} {Post : Int32 → Prop} (hX : JX X own cc nL ret F LL mc ms) (hKP : jj_Keeps P) (hlk : (Cond.methodLink own ix yX7_isLetter) ∈ lw_all) (hF : 1 + 1 ≤ F) (hL : 8 + (1 + 11) + 20 ≤ LL) (hk : k ≤ mc) (hk2 : n ≤ ms) (hw : (st.map fun v => v.category).sum ≤ 8) (d : decode cc pc = .ok (.invokestatic ix, 3)) (q : Nat) (hq : pc + 3 = q) (h : mw_isLetter x0 Post) (kk : ∀ r : Int32, jj_z r → Post r → JJ X A Q nL P k n q lv (.int r :: st)) : JJ X A Q nL P k n pc lv (.int x0 :: st) :=
  js_callz (na := 1) (As := [.int x0]) hX hKP (mmw_isLetter (jj_l X) x0 Post h) hlk q1772 q129 q1773 hd_mw_isLetter rfl rfl hw hF hL hk hk2 d q hq kk
/-- RaisedPressModel.isDigit0(I)Z -/
def mw_isDigit0 (x0 : Int32) (Post : Int32 → Prop) : Prop :=
  (x0 < (48 : Int32) →
    Post (0 : Int32)) ∧
  (¬ x0 < (48 : Int32) →
    ((57 : Int32) < x0 →
      Post (0 : Int32)) ∧
    (¬ (57 : Int32) < x0 →
      Post (1 : Int32)))
set_option maxHeartbeats 4000000 in
set_option maxRecDepth 100000 in
theorem mmw_isDigit0 (l : Launch) (x0 : Int32) (Post : Int32 → Prop) (h : mw_isDigit0 x0 Post) : Met l yX7_isDigit0 (ws_ yX7_isDigit0 cX7_isDigit0 1 (Option.some Jvm.ClassFile.FieldType.boolean)) (jm_rm 0 0) (js_Pc [.int x0]) (va_Qi (fun r (_ : Unit) => Post r ∧ jj_z r) js_B js_A) 0 0 js_A := by
  refine js_start [.int x0] [(0, .int x0)] (by decide) (Nat.le_of_ble_eq_true rfl) rfl (fun X hX => ?_)
  unfold mw_isDigit0 at h
  refine jj_iload_n hX dX7_isDigit0_0 0 rfl 1 rfl ?_
  refine jj_bipush hX dX7_isDigit0_1 cb_48 3 rfl ?_
  refine jj_icmp_lt hX dX7_isDigit0_3 16 6 (by decide) rfl (fun c3 => ?_) (fun c3 => ?_)
  · have h := h.1 c3
    refine jj_iconst hX dX7_isDigit0_16 ci_0 17 rfl ?_
    exact jj_retz (post := (fun r (_ : Unit) => Post r)) (u := ()) hX dX7_isDigit0_17 (Nat.le_refl 0) (Nat.le_refl 0) js_hB jj_z0 h
  · have h := h.2 c3
    refine jj_iload_n hX dX7_isDigit0_6 0 rfl 7 rfl ?_
    refine jj_bipush hX dX7_isDigit0_7 cb_57 9 rfl ?_
    refine jj_icmp_gt hX dX7_isDigit0_9 16 12 (by decide) rfl (fun c9 => ?_) (fun c9 => ?_)
    · have h := h.1 c9
      refine jj_iconst hX dX7_isDigit0_16 ci_0 17 rfl ?_
      exact jj_retz (post := (fun r (_ : Unit) => Post r)) (u := ()) hX dX7_isDigit0_17 (Nat.le_refl 0) (Nat.le_refl 0) js_hB jj_z0 h
    · have h := h.2 c9
      refine jj_iconst hX dX7_isDigit0_12 ci_1 13 rfl ?_
      refine jj_goto hX dX7_isDigit0_13 17 (by decide) ?_
      exact jj_retz (post := (fun r (_ : Unit) => Post r)) (u := ()) hX dX7_isDigit0_17 (Nat.le_refl 0) (Nat.le_refl 0) js_hB jj_z1 h
theorem hd_mw_isDigit0 : yX7_isDigit0.cls ≠ "java/lang/invoke/MethodHandle" ∧ yX7_isDigit0.cls ≠ "java/lang/invoke/VarHandle" ∧ (parseMethodDescriptor yX7_isDigit0.desc).map (fun d => d.parameters.length) = some 1 := by decide +kernel
theorem kmw_isDigit0 {X : JC} {A : Nat → Prop} {Q : State → Prop} {P : Heap → Prop} {nL k n pc : Nat} {lv : List (Nat × Value)} {st : List Value} {own : String} {cc : ByteArray} {ret : Option FieldType} {F LL mc ms ix : Nat} {x0 : Int32} {Post : Int32 → Prop} (hX : JX X own cc nL ret F LL mc ms) (hKP : jj_Keeps P) (hlk : (Cond.methodLink own ix yX7_isDigit0) ∈ lw_all) (hF : 0 + 1 ≤ F) (hL : 8 + (1 + 11) + 0 ≤ LL) (hk : k ≤ mc) (hk2 : n ≤ ms) (hw : (st.map fun v => v.category).sum ≤ 8) (d : decode cc pc = .ok (.invokestatic ix, 3)) (q : Nat) (hq : pc + 3 = q) (h : mw_isDigit0 x0 Post) (kk : ∀ r : Int32, jj_z r → Post r → JJ X A Q nL P k n q lv (.int r :: st)) : JJ X A Q nL P k n pc lv (.int x0 :: st) :=
  js_callz (na := 1) (As := [.int x0]) hX hKP (mmw_isDigit0 (jj_l X) x0 Post h) hlk q1778 q129 q1779 hd_mw_isDigit0 rfl rfl hw hF hL hk hk2 d q hq kk
/-- RaisedPressModel.isBad(II)Z -/
def mw_isBad (x1 : Int32) (x2 : Int32) (u : MS) (Post : Int32 → MS → Prop) : Prop :=
  ∀ u2 : MS, u2 = jm_s u 0 20 x1 →
  ∀ u7 : MS, u7 = jm_s u2 0 21 x2 →
  Post (0 : Int32) u7
set_option maxHeartbeats 4000000 in
set_option maxRecDepth 100000 in
theorem mmw_isBad (l : Launch) (D : va_G) (dA ad : Nat → Nat) (hD : MD ad) (x1 : Int32) (x2 : Int32) (u : MS) (Post : Int32 → MS → Prop) (h : mw_isBad x1 x2 u Post) : Met l yX7_isBad (ws_ yX7_isBad cX7_isBad 3 (Option.some Jvm.ClassFile.FieldType.boolean)) (jm_rm 0 0) (jm_Pc D dA ad u [.int x1, .int x2]) (va_Qi (fun r u => Post r u ∧ jj_z r) (jm_B D dA ad) (AM ad)) 0 0 (AM ad) := by
  refine jm_start [.int x1, .int x2] [(0, .ref (ad 0)), (1, .int x1), (2, .int x2)] (by decide) (Nat.le_of_ble_eq_true rfl) rfl (fun X hX hK => ?_)
  unfold mw_isBad at h
  refine jj_aload_n hX dX7_isBad_0 0 rfl 1 rfl ?_
  refine jj_iload_n hX dX7_isBad_1 1 rfl 2 rfl ?_
  refine jp_20 hX hK hD dX7_isBad_2 q1504 5 rfl (fun u2 e2 => ?_)
  have h := h u2 e2
  refine jj_aload_n hX dX7_isBad_5 0 rfl 6 rfl ?_
  refine jj_iload_n hX dX7_isBad_6 2 rfl 7 rfl ?_
  refine jp_21 hX hK hD dX7_isBad_7 q1505 10 rfl (fun u7 e7 => ?_)
  have h := h u7 e7
  refine jj_iconst hX dX7_isBad_10 ci_0 11 rfl ?_
  exact jj_retz (post := Post) (u := u7) hX dX7_isBad_11 (Nat.le_refl 0) (Nat.le_refl 0) jm_hB jj_z0 h
theorem hd_mw_isBad : yX7_isBad.cls = RX7 ∧ yX7_isBad.cls ≠ "java/lang/invoke/MethodHandle" ∧ yX7_isBad.cls ≠ "java/lang/invoke/VarHandle" ∧ (parseMethodDescriptor yX7_isBad.desc).map (fun d => d.parameters.length) = some 2 := by decide +kernel
theorem kmw_isBad {X : JC} {Q : State → Prop} {nL k n pc : Nat} {lv : List (Nat × Value)} {st : List Value} {own : String} {cc : ByteArray} {ret : Option FieldType} {F LL mc ms ix : Nat} {D : va_G} {dA ad : Nat → Nat} {x1 : Int32} {x2 : Int32} {u : MS} {Post : Int32 → MS → Prop} (hX : JX X own cc nL ret F LL mc ms) (hK : KM D dA (jj_s X)) (hD : MD ad) (hlk : (Cond.methodLink own ix yX7_isBad) ∈ lw_all) (hF : 0 + 1 ≤ F) (hL : 8 + (3 + 11) + 0 ≤ LL) (hk : k ≤ mc) (hk2 : n ≤ ms) (hw : (st.map fun v => v.category).sum ≤ 8) (d : decode cc pc = .ok (.invokevirtual ix, 3)) (q : Nat) (hq : pc + 3 = q) (h : mw_isBad x1 x2 u Post) (kk : ∀ (r : Int32) (u2 : MS), jj_z r → Post r u2 → JJ X (AM ad) Q nL (MW D dA ad u2) k n q lv (.int r :: st)) : JJ X (AM ad) Q nL (MW D dA ad u) k n pc lv (.int x2 :: .int x1 :: .ref (ad 0) :: st) :=
  jm_callz (na := 2) (As := [.int x1, .int x2]) hX hK (mmw_isBad (jj_l X) D dA ad hD x1 x2 u Post h) hlk q1782 qs79 q129 q1783 hd_mw_isBad rfl rfl hw hF hL hk hk2 d q hq kk
/-- RaisedPressModel.sets(II)V -/
def mw_sets (x1 : Int32) (x2 : Int32) (u : MS) (Post : MS → Prop) : Prop :=
  vp_in ((17100 : Int32) + (jm_i u 1 16508)) 19800 ∧
  ∀ u17 : MS, u17 = jm_s u 1 ((17100 : Int32) + (jm_i u 1 16508)).toNatClampNeg x1 →
  vp_in ((18540 : Int32) + (jm_i u17 1 16508)) 19800 ∧
  ∀ u35 : MS, u35 = jm_s u17 1 ((18540 : Int32) + (jm_i u17 1 16508)).toNatClampNeg x2 →
  ∀ u47 : MS, u47 = jm_s u35 1 16508 ((jm_i u35 1 16508) + (1 : Int32)) →
  Post u47
set_option maxHeartbeats 4000000 in
set_option maxRecDepth 100000 in
theorem mmw_sets (l : Launch) (D : va_G) (dA ad : Nat → Nat) (hD : MD ad) (x1 : Int32) (x2 : Int32) (u : MS) (Post : MS → Prop) (h : mw_sets x1 x2 u Post) : Met l yX7_sets (ws_ yX7_sets cX7_sets 3 (Option.none : Option Jvm.ClassFile.FieldType)) (jm_rm 0 0) (jm_Pc D dA ad u [.int x1, .int x2]) (va_Qv Post (jm_B D dA ad) (AM ad)) 0 0 (AM ad) := by
  refine jm_start [.int x1, .int x2] [(0, .ref (ad 0)), (1, .int x1), (2, .int x2)] (by decide) (Nat.le_of_ble_eq_true rfl) rfl (fun X hX hK => ?_)
  unfold mw_sets at h
  refine jt_0 hX hK dX7_sets_0 0 rfl dX7_sets_1 q1484 4 rfl rfl ?_
  refine jj_sipush hX dX7_sets_4 cs_17100 7 rfl ?_
  refine jt_0 hX hK dX7_sets_7 0 rfl dX7_sets_8 q1484 11 rfl rfl ?_
  refine jj_sipush hX dX7_sets_11 cs_16508 14 rfl ?_
  refine jr_1 hX hK 16508 kc_16508 vi_1_16508 dX7_sets_14 15 rfl ?_
  refine jj_iadd hX dX7_sets_15 16 rfl ?_
  refine jj_iload_n hX dX7_sets_16 1 rfl 17 rfl ?_
  obtain ⟨hi17, h⟩ := h
  refine jw_1 hX hK hD _ rfl hi17 dX7_sets_17 18 rfl (fun u17 e17 => ?_)
  have h := h u17 e17
  refine jt_0 hX hK dX7_sets_18 0 rfl dX7_sets_19 q1484 22 rfl rfl ?_
  refine jj_sipush hX dX7_sets_22 cs_18540 25 rfl ?_
  refine jt_0 hX hK dX7_sets_25 0 rfl dX7_sets_26 q1484 29 rfl rfl ?_
  refine jj_sipush hX dX7_sets_29 cs_16508 32 rfl ?_
  refine jr_1 hX hK 16508 kc_16508 vi_1_16508 dX7_sets_32 33 rfl ?_
  refine jj_iadd hX dX7_sets_33 34 rfl ?_
  refine jj_iload_n hX dX7_sets_34 2 rfl 35 rfl ?_
  obtain ⟨hi35, h⟩ := h
  refine jw_1 hX hK hD _ rfl hi35 dX7_sets_35 36 rfl (fun u35 e35 => ?_)
  have h := h u35 e35
  refine jt_0 hX hK dX7_sets_36 0 rfl dX7_sets_37 q1484 40 rfl rfl ?_
  refine jj_sipush hX dX7_sets_40 cs_16508 43 rfl ?_
  refine jj_dup2 hX dX7_sets_43 rfl rfl 44 rfl ?_
  refine jr_1 hX hK 16508 kc_16508 vi_1_16508 dX7_sets_44 45 rfl ?_
  refine jj_iconst hX dX7_sets_45 ci_1 46 rfl ?_
  refine jj_iadd hX dX7_sets_46 47 rfl ?_
  refine jw_1 hX hK hD 16508 kc_16508 vi_1_16508 dX7_sets_47 48 rfl (fun u47 e47 => ?_)
  have h := h u47 e47
  exact jj_retv hX dX7_sets_48 (Nat.le_refl 0) (Nat.le_refl 0) jm_hB h
theorem hd_mw_sets : yX7_sets.cls = RX7 ∧ yX7_sets.cls ≠ "java/lang/invoke/MethodHandle" ∧ yX7_sets.cls ≠ "java/lang/invoke/VarHandle" ∧ (parseMethodDescriptor yX7_sets.desc).map (fun d => d.parameters.length) = some 2 := by decide +kernel
theorem kmw_sets {X : JC} {Q : State → Prop} {nL k n pc : Nat} {lv : List (Nat × Value)} {st : List Value} {own : String} {cc : ByteArray} {ret : Option FieldType} {F LL mc ms ix : Nat} {D : va_G} {dA ad : Nat → Nat} {x1 : Int32} {x2 : Int32} {u : MS} {Post : MS → Prop} (hX : JX X own cc nL ret F LL mc ms) (hK : KM D dA (jj_s X)) (hD : MD ad) (hlk : (Cond.methodLink own ix yX7_sets) ∈ lw_all) (hF : 0 + 1 ≤ F) (hL : 8 + (3 + 11) + 0 ≤ LL) (hk : k ≤ mc) (hk2 : n ≤ ms) (hw : (st.map fun v => v.category).sum ≤ 8) (d : decode cc pc = .ok (.invokevirtual ix, 3)) (q : Nat) (hq : pc + 3 = q) (h : mw_sets x1 x2 u Post) (kk : ∀ u2 : MS, Post u2 → JJ X (AM ad) Q nL (MW D dA ad u2) k n q lv st) : JJ X (AM ad) Q nL (MW D dA ad u) k n pc lv (.int x2 :: .int x1 :: .ref (ad 0) :: st) :=
  jm_callv (na := 2) (As := [.int x1, .int x2]) hX hK (mmw_sets (jj_l X) D dA ad hD x1 x2 u Post h) hlk q1786 qs80 q129 q1787 hd_mw_sets rfl rfl hw hF hL hk hk2 d q hq kk
def mw_wordEnd_L2_S (Post : Int32 → MS → Prop) (R : Int32 → MS → Prop) (x2 : Int32) (u : MS) : Prop :=
  mw_byteOf x2 u (fun r4 u4 =>
    mw_isLetter r4 (fun r7 =>
      (r7 = 0 →
        Post x2 u4) ∧
      (¬ r7 = 0 →
        ∀ v13 : Int32, v13 = x2 + (1 : Int32) →
        R v13 u4)))
def mw_wordEnd_L2 (Post : Int32 → MS → Prop) : Nat → Int32 → MS → Prop
  | 0 => fun _ _ => False
  | n + 1 => fun x2 u => mw_wordEnd_L2_S Post (mw_wordEnd_L2 Post n) x2 u
/-- RaisedPressModel.wordEnd(I)I -/
def mw_wordEnd (x1 : Int32) (u : MS) (Post : Int32 → MS → Prop) : Prop :=
  ∃ n, mw_wordEnd_L2 Post n x1 u
set_option maxHeartbeats 4000000 in
set_option maxRecDepth 100000 in
theorem tmw_wordEnd_L2 {X : JC} {D : va_G} {dA ad : Nat → Nat} {Post : Int32 → MS → Prop} (hX : JX X yX7_wordEnd.cls cX7_wordEnd 3 (Option.some Jvm.ClassFile.FieldType.int) 2 40 0 0) (hK : KM D dA (jj_s X)) (hD : MD ad) : ∀ (n : Nat) (x2 : Int32) (u : MS), mw_wordEnd_L2 Post n x2 u → JJ X (AM ad) (jj_Q X (va_Qi Post (jm_B D dA ad) (AM ad)) 0 0 (AM ad)) 3 (MW D dA ad u) 0 0 2 [(0, .ref (ad 0)), (2, .int x2)] [] := by
  intro n
  induction n with
  | zero =>
    intro x2 u h
    exact h.elim
  | succ n ih =>
    intro x2 u h
    have h : mw_wordEnd_L2_S Post (mw_wordEnd_L2 Post n) x2 u := h
    unfold mw_wordEnd_L2_S at h
    refine jj_aload_n hX dX7_wordEnd_2 0 rfl 3 rfl ?_
    refine jj_iload_n hX dX7_wordEnd_3 1 rfl 4 rfl ?_
    refine kmw_byteOf hX hK hD q1764 (Nat.le_of_ble_eq_true rfl) (Nat.le_of_ble_eq_true rfl) (Nat.zero_le _) (Nat.zero_le _) (Nat.le_of_ble_eq_true rfl) dX7_wordEnd_4 7 rfl h (fun r4 u4 h => ?_)
    refine kmw_isLetter hX MW.keeps q1771 (Nat.le_of_ble_eq_true rfl) (Nat.le_of_ble_eq_true rfl) (Nat.zero_le _) (Nat.zero_le _) (Nat.le_of_ble_eq_true rfl) dX7_wordEnd_7 10 rfl h (fun r7 hb7 h => ?_)
    refine jj_if_eq hX dX7_wordEnd_10 19 13 (by decide) rfl (fun c10 => ?_) (fun c10 => ?_)
    · have h := h.1 c10
      refine jj_iload_n hX dX7_wordEnd_19 1 rfl 20 rfl ?_
      exact jj_reti (post := Post) (u := u4) hX dX7_wordEnd_20 (Nat.le_refl 0) (Nat.le_refl 0) jm_hB h
    · have h := h.2 c10
      obtain ⟨v13, e13⟩ : ∃ y : Int32, y = x2 + (1 : Int32) := ⟨_, rfl⟩
      have h := h v13 e13
      refine jj_iinc (v := v13) (lv2 := [(0, .ref (ad 0)), (2, .int v13)]) hX dX7_wordEnd_13 1 rfl (by rw [e13, ci_1]) (Nat.le_of_ble_eq_true rfl) [1, 0] rfl 16 rfl ?_
      refine jj_goto hX dX7_wordEnd_16 2 (by decide) ?_
      exact ih _ _ h
set_option maxHeartbeats 4000000 in
set_option maxRecDepth 100000 in
theorem mmw_wordEnd (l : Launch) (D : va_G) (dA ad : Nat → Nat) (hD : MD ad) (x1 : Int32) (u : MS) (Post : Int32 → MS → Prop) (h : mw_wordEnd x1 u Post) : Met l yX7_wordEnd (ws_ yX7_wordEnd cX7_wordEnd 3 (Option.some Jvm.ClassFile.FieldType.int)) (jm_rm 2 40) (jm_Pc D dA ad u [.int x1]) (va_Qi Post (jm_B D dA ad) (AM ad)) 0 0 (AM ad) := by
  refine jm_start [.int x1] [(0, .ref (ad 0)), (1, .int x1)] (by decide) (Nat.le_of_ble_eq_true rfl) rfl (fun X hX hK => ?_)
  unfold mw_wordEnd at h
  refine jj_iload_n hX dX7_wordEnd_0 1 rfl 1 rfl ?_
  refine jj_istore_n (lv2 := [(0, .ref (ad 0)), (2, .int x1)]) hX dX7_wordEnd_1 (Nat.le_of_ble_eq_true rfl) [1, 0] rfl 2 rfl ?_
  obtain ⟨n9, h⟩ := h
  exact tmw_wordEnd_L2 hX hK hD n9 _ _ h
theorem hd_mw_wordEnd : yX7_wordEnd.cls = RX7 ∧ yX7_wordEnd.cls ≠ "java/lang/invoke/MethodHandle" ∧ yX7_wordEnd.cls ≠ "java/lang/invoke/VarHandle" ∧ (parseMethodDescriptor yX7_wordEnd.desc).map (fun d => d.parameters.length) = some 1 := by decide +kernel
theorem kmw_wordEnd {X : JC} {Q : State → Prop} {nL k n pc : Nat} {lv : List (Nat × Value)} {st : List Value} {own : String} {cc : ByteArray} {ret : Option FieldType} {F LL mc ms ix : Nat} {D : va_G} {dA ad : Nat → Nat} {x1 : Int32} {u : MS} {Post : Int32 → MS → Prop} (hX : JX X own cc nL ret F LL mc ms) (hK : KM D dA (jj_s X)) (hD : MD ad) (hlk : (Cond.methodLink own ix yX7_wordEnd) ∈ lw_all) (hF : 2 + 1 ≤ F) (hL : 8 + (3 + 11) + 40 ≤ LL) (hk : k ≤ mc) (hk2 : n ≤ ms) (hw : (st.map fun v => v.category).sum ≤ 8) (d : decode cc pc = .ok (.invokevirtual ix, 3)) (q : Nat) (hq : pc + 3 = q) (h : mw_wordEnd x1 u Post) (kk : ∀ (r : Int32) (u2 : MS), Post r u2 → JJ X (AM ad) Q nL (MW D dA ad u2) k n q lv (.int r :: st)) : JJ X (AM ad) Q nL (MW D dA ad u) k n pc lv (.int x1 :: .ref (ad 0) :: st) :=
  jm_calli (na := 1) (As := [.int x1]) hX hK (mmw_wordEnd (jj_l X) D dA ad hD x1 u Post h) hlk q1790 qs81 q129 q1791 hd_mw_wordEnd rfl rfl hw hF hL hk hk2 d q hq kk
/-- RaisedPressModel.isOut(II)Z -/
def mw_isOut (x0 : Int32) (x1 : Int32) (Post : Int32 → Prop) : Prop :=
  (¬ ((x0 >>> (x1 &&& 31)) &&& (1 : Int32)) = (1 : Int32) →
    Post (0 : Int32)) ∧
  (((x0 >>> (x1 &&& 31)) &&& (1 : Int32)) = (1 : Int32) →
    Post (1 : Int32))
set_option maxHeartbeats 4000000 in
set_option maxRecDepth 100000 in
theorem mmw_isOut (l : Launch) (x0 : Int32) (x1 : Int32) (Post : Int32 → Prop) (h : mw_isOut x0 x1 Post) : Met l yX7_isOut (ws_ yX7_isOut cX7_isOut 2 (Option.some Jvm.ClassFile.FieldType.boolean)) (jm_rm 0 0) (js_Pc [.int x0, .int x1]) (va_Qi (fun r (_ : Unit) => Post r ∧ jj_z r) js_B js_A) 0 0 js_A := by
  refine js_start [.int x0, .int x1] [(0, .int x0), (1, .int x1)] (by decide) (Nat.le_of_ble_eq_true rfl) rfl (fun X hX => ?_)
  unfold mw_isOut at h
  refine jj_iload_n hX dX7_isOut_0 0 rfl 1 rfl ?_
  refine jj_iload_n hX dX7_isOut_1 1 rfl 2 rfl ?_
  refine jj_ishr hX dX7_isOut_2 3 rfl ?_
  refine jj_iconst hX dX7_isOut_3 ci_1 4 rfl ?_
  refine jj_iand hX dX7_isOut_4 5 rfl ?_
  refine jj_iconst hX dX7_isOut_5 ci_1 6 rfl ?_
  refine jj_icmp_ne hX dX7_isOut_6 13 9 (by decide) rfl (fun c6 => ?_) (fun c6 => ?_)
  · have h := h.1 c6
    refine jj_iconst hX dX7_isOut_13 ci_0 14 rfl ?_
    exact jj_retz (post := (fun r (_ : Unit) => Post r)) (u := ()) hX dX7_isOut_14 (Nat.le_refl 0) (Nat.le_refl 0) js_hB jj_z0 h
  · have h := h.2 c6
    refine jj_iconst hX dX7_isOut_9 ci_1 10 rfl ?_
    refine jj_goto hX dX7_isOut_10 14 (by decide) ?_
    exact jj_retz (post := (fun r (_ : Unit) => Post r)) (u := ()) hX dX7_isOut_14 (Nat.le_refl 0) (Nat.le_refl 0) js_hB jj_z1 h
theorem hd_mw_isOut : yX7_isOut.cls ≠ "java/lang/invoke/MethodHandle" ∧ yX7_isOut.cls ≠ "java/lang/invoke/VarHandle" ∧ (parseMethodDescriptor yX7_isOut.desc).map (fun d => d.parameters.length) = some 2 := by decide +kernel
theorem kmw_isOut {X : JC} {A : Nat → Prop} {Q : State → Prop} {P : Heap → Prop} {nL k n pc : Nat} {lv : List (Nat × Value)} {st : List Value} {own : String} {cc : ByteArray} {ret : Option FieldType} {F LL mc ms ix : Nat} {x0 : Int32} {x1 : Int32} {Post : Int32 → Prop} (hX : JX X own cc nL ret F LL mc ms) (hKP : jj_Keeps P) (hlk : (Cond.methodLink own ix yX7_isOut) ∈ lw_all) (hF : 0 + 1 ≤ F) (hL : 8 + (2 + 11) + 0 ≤ LL) (hk : k ≤ mc) (hk2 : n ≤ ms) (hw : (st.map fun v => v.category).sum ≤ 8) (d : decode cc pc = .ok (.invokestatic ix, 3)) (q : Nat) (hq : pc + 3 = q) (h : mw_isOut x0 x1 Post) (kk : ∀ r : Int32, jj_z r → Post r → JJ X A Q nL P k n q lv (.int r :: st)) : JJ X A Q nL P k n pc lv (.int x1 :: .int x0 :: st) :=
  js_callz (na := 2) (As := [.int x0, .int x1]) hX hKP (mmw_isOut (jj_l X) x0 x1 Post h) hlk q1801 q129 q1802 hd_mw_isOut rfl rfl hw hF hL hk hk2 d q hq kk
/-- RaisedPressModel.letterOf(I)I -/
def mw_letterOf (x0 : Int32) (Post : Int32 → Prop) : Prop :=
  mw_isGreat x0 (fun r1 =>
    (r1 = 0 →
      Post ((x0 - (97 : Int32)) + (1 : Int32))) ∧
    (¬ r1 = 0 →
      Post ((x0 - (65 : Int32)) + (1 : Int32))))
set_option maxHeartbeats 4000000 in
set_option maxRecDepth 100000 in
theorem mmw_letterOf (l : Launch) (x0 : Int32) (Post : Int32 → Prop) (h : mw_letterOf x0 Post) : Met l yX7_letterOf (ws_ yX7_letterOf cX7_letterOf 1 (Option.some Jvm.ClassFile.FieldType.int)) (jm_rm 1 20) (js_Pc [.int x0]) (va_Qi (fun r (_ : Unit) => Post r) js_B js_A) 0 0 js_A := by
  refine js_start [.int x0] [(0, .int x0)] (by decide) (Nat.le_of_ble_eq_true rfl) rfl (fun X hX => ?_)
  unfold mw_letterOf at h
  refine jj_iload_n hX dX7_letterOf_0 0 rfl 1 rfl ?_
  refine kmw_isGreat hX js_keepP q1774 (Nat.le_of_ble_eq_true rfl) (Nat.le_of_ble_eq_true rfl) (Nat.zero_le _) (Nat.zero_le _) (Nat.le_of_ble_eq_true rfl) dX7_letterOf_1 4 rfl h (fun r1 hb1 h => ?_)
  refine jj_if_eq hX dX7_letterOf_4 16 7 (by decide) rfl (fun c4 => ?_) (fun c4 => ?_)
  · have h := h.1 c4
    refine jj_iload_n hX dX7_letterOf_16 0 rfl 17 rfl ?_
    refine jj_bipush hX dX7_letterOf_17 cb_97 19 rfl ?_
    refine jj_isub hX dX7_letterOf_19 20 rfl ?_
    refine jj_iconst hX dX7_letterOf_20 ci_1 21 rfl ?_
    refine jj_iadd hX dX7_letterOf_21 22 rfl ?_
    exact jj_reti (post := (fun r (_ : Unit) => Post r)) (u := ()) hX dX7_letterOf_22 (Nat.le_refl 0) (Nat.le_refl 0) js_hB h
  · have h := h.2 c4
    refine jj_iload_n hX dX7_letterOf_7 0 rfl 8 rfl ?_
    refine jj_bipush hX dX7_letterOf_8 cb_65 10 rfl ?_
    refine jj_isub hX dX7_letterOf_10 11 rfl ?_
    refine jj_iconst hX dX7_letterOf_11 ci_1 12 rfl ?_
    refine jj_iadd hX dX7_letterOf_12 13 rfl ?_
    refine jj_goto hX dX7_letterOf_13 22 (by decide) ?_
    exact jj_reti (post := (fun r (_ : Unit) => Post r)) (u := ()) hX dX7_letterOf_22 (Nat.le_refl 0) (Nat.le_refl 0) js_hB h
theorem hd_mw_letterOf : yX7_letterOf.cls ≠ "java/lang/invoke/MethodHandle" ∧ yX7_letterOf.cls ≠ "java/lang/invoke/VarHandle" ∧ (parseMethodDescriptor yX7_letterOf.desc).map (fun d => d.parameters.length) = some 1 := by decide +kernel
theorem kmw_letterOf {X : JC} {A : Nat → Prop} {Q : State → Prop} {P : Heap → Prop} {nL k n pc : Nat} {lv : List (Nat × Value)} {st : List Value} {own : String} {cc : ByteArray} {ret : Option FieldType} {F LL mc ms ix : Nat} {x0 : Int32} {Post : Int32 → Prop} (hX : JX X own cc nL ret F LL mc ms) (hKP : jj_Keeps P) (hlk : (Cond.methodLink own ix yX7_letterOf) ∈ lw_all) (hF : 1 + 1 ≤ F) (hL : 8 + (1 + 11) + 20 ≤ LL) (hk : k ≤ mc) (hk2 : n ≤ ms) (hw : (st.map fun v => v.category).sum ≤ 8) (d : decode cc pc = .ok (.invokestatic ix, 3)) (q : Nat) (hq : pc + 3 = q) (h : mw_letterOf x0 Post) (kk : ∀ r : Int32, Post r → JJ X A Q nL P k n q lv (.int r :: st)) : JJ X A Q nL P k n pc lv (.int x0 :: st) :=
  js_calli (na := 1) (As := [.int x0]) hX hKP (mmw_letterOf (jj_l X) x0 Post h) hlk q1808 q129 q1809 hd_mw_letterOf rfl rfl hw hF hL hk hk2 d q hq kk
def mw_holds_B34 (Post : Int32 → Prop) (s0 : Int32) (s1 : Int32) : Prop :=
  (¬ s1 = s0 →
    Post (0 : Int32)) ∧
  (s1 = s0 →
    Post (1 : Int32))
def mw_holds_B17 (Post : Int32 → Prop) (x1 : Int32) (x2 : Int32) (s0 : Int32) : Prop :=
  (x1 = 0 →
    (x2 = 0 →
      mw_holds_B34 Post (2 : Int32) s0) ∧
    (¬ x2 = 0 →
      mw_holds_B34 Post (3 : Int32) s0)) ∧
  (¬ x1 = 0 →
    mw_holds_B34 Post (1 : Int32) s0)
/-- RaisedPressModel.holds(IZZ)Z -/
def mw_holds (x0 : Int32) (x1 : Int32) (x2 : Int32) (Post : Int32 → Prop) : Prop :=
  (x0 = 0 →
    Post (1 : Int32)) ∧
  (¬ x0 = 0 →
    (x1 = 0 →
      mw_holds_B17 Post x1 x2 x0) ∧
    (¬ x1 = 0 →
      (x2 = 0 →
        mw_holds_B17 Post x1 x2 x0) ∧
      (¬ x2 = 0 →
        mw_holds_B34 Post (4 : Int32) x0)))
set_option maxHeartbeats 4000000 in
set_option maxRecDepth 100000 in
theorem tmw_holds_B34 {X : JC} {Post : Int32 → Prop} {s0 : Int32} {s1 : Int32} (hX : JX X yX7_holds.cls cX7_holds 3 (Option.some Jvm.ClassFile.FieldType.boolean) 0 0 0 0) (h : mw_holds_B34 Post s0 s1) : JJ X js_A (jj_Q X (va_Qi (fun r (_ : Unit) => Post r ∧ jj_z r) js_B js_A) 0 0 js_A) 3 js_P 0 0 34 [] [.int s0, .int s1] := by
  unfold mw_holds_B34 at h
  refine jj_icmp_ne hX dX7_holds_34 41 37 (by decide) rfl (fun c34 => ?_) (fun c34 => ?_)
  · have h := h.1 c34
    refine jj_iconst hX dX7_holds_41 ci_0 42 rfl ?_
    exact jj_retz (post := (fun r (_ : Unit) => Post r)) (u := ()) hX dX7_holds_42 (Nat.le_refl 0) (Nat.le_refl 0) js_hB jj_z0 h
  · have h := h.2 c34
    refine jj_iconst hX dX7_holds_37 ci_1 38 rfl ?_
    refine jj_goto hX dX7_holds_38 42 (by decide) ?_
    exact jj_retz (post := (fun r (_ : Unit) => Post r)) (u := ()) hX dX7_holds_42 (Nat.le_refl 0) (Nat.le_refl 0) js_hB jj_z1 h
set_option maxHeartbeats 4000000 in
set_option maxRecDepth 100000 in
theorem tmw_holds_B17 {X : JC} {Post : Int32 → Prop} {x1 : Int32} {x2 : Int32} {s0 : Int32} (hX : JX X yX7_holds.cls cX7_holds 3 (Option.some Jvm.ClassFile.FieldType.boolean) 0 0 0 0) (h : mw_holds_B17 Post x1 x2 s0) : JJ X js_A (jj_Q X (va_Qi (fun r (_ : Unit) => Post r ∧ jj_z r) js_B js_A) 0 0 js_A) 3 js_P 0 0 17 [(1, .int x1), (2, .int x2)] [.int s0] := by
  unfold mw_holds_B17 at h
  refine jj_iload_n hX dX7_holds_17 0 rfl 18 rfl ?_
  refine jj_if_eq hX dX7_holds_18 25 21 (by decide) rfl (fun c18 => ?_) (fun c18 => ?_)
  · have h := h.1 c18
    refine jj_iload_n hX dX7_holds_25 1 rfl 26 rfl ?_
    refine jj_if_eq hX dX7_holds_26 33 29 (by decide) rfl (fun c26 => ?_) (fun c26 => ?_)
    · have h := h.1 c26
      refine jj_iconst hX dX7_holds_33 ci_2 34 rfl ?_
      refine jj_sub (lv2 := []) [] rfl ?_
      exact tmw_holds_B34 hX h
    · have h := h.2 c26
      refine jj_iconst hX dX7_holds_29 ci_3 30 rfl ?_
      refine jj_goto hX dX7_holds_30 34 (by decide) ?_
      refine jj_sub (lv2 := []) [] rfl ?_
      exact tmw_holds_B34 hX h
  · have h := h.2 c18
    refine jj_iconst hX dX7_holds_21 ci_1 22 rfl ?_
    refine jj_goto hX dX7_holds_22 34 (by decide) ?_
    refine jj_sub (lv2 := []) [] rfl ?_
    exact tmw_holds_B34 hX h
set_option maxHeartbeats 4000000 in
set_option maxRecDepth 100000 in
theorem mmw_holds (l : Launch) (x0 : Int32) (x1 : Int32) (x2 : Int32) (Post : Int32 → Prop) (h : mw_holds x0 x1 x2 Post) : Met l yX7_holds (ws_ yX7_holds cX7_holds 3 (Option.some Jvm.ClassFile.FieldType.boolean)) (jm_rm 0 0) (js_Pc [.int x0, .int x1, .int x2]) (va_Qi (fun r (_ : Unit) => Post r ∧ jj_z r) js_B js_A) 0 0 js_A := by
  refine js_start [.int x0, .int x1, .int x2] [(0, .int x0), (1, .int x1), (2, .int x2)] (by decide) (Nat.le_of_ble_eq_true rfl) rfl (fun X hX => ?_)
  unfold mw_holds at h
  refine jj_iload_n hX dX7_holds_0 0 rfl 1 rfl ?_
  refine jj_if_eq hX dX7_holds_1 37 4 (by decide) rfl (fun c1 => ?_) (fun c1 => ?_)
  · have h := h.1 c1
    refine jj_iconst hX dX7_holds_37 ci_1 38 rfl ?_
    refine jj_goto hX dX7_holds_38 42 (by decide) ?_
    exact jj_retz (post := (fun r (_ : Unit) => Post r)) (u := ()) hX dX7_holds_42 (Nat.le_refl 0) (Nat.le_refl 0) js_hB jj_z1 h
  · have h := h.2 c1
    refine jj_iload_n hX dX7_holds_4 0 rfl 5 rfl ?_
    refine jj_iload_n hX dX7_holds_5 1 rfl 6 rfl ?_
    refine jj_if_eq hX dX7_holds_6 17 9 (by decide) rfl (fun c6 => ?_) (fun c6 => ?_)
    · have h := h.1 c6
      refine jj_sub (lv2 := [(1, .int x1), (2, .int x2)]) [1, 2] rfl ?_
      exact tmw_holds_B17 hX h
    · have h := h.2 c6
      refine jj_iload_n hX dX7_holds_9 2 rfl 10 rfl ?_
      refine jj_if_eq hX dX7_holds_10 17 13 (by decide) rfl (fun c10 => ?_) (fun c10 => ?_)
      · have h := h.1 c10
        refine jj_sub (lv2 := [(1, .int x1), (2, .int x2)]) [1, 2] rfl ?_
        exact tmw_holds_B17 hX h
      · have h := h.2 c10
        refine jj_iconst hX dX7_holds_13 ci_4 14 rfl ?_
        refine jj_goto hX dX7_holds_14 34 (by decide) ?_
        refine jj_sub (lv2 := []) [] rfl ?_
        exact tmw_holds_B34 hX h
theorem hd_mw_holds : yX7_holds.cls ≠ "java/lang/invoke/MethodHandle" ∧ yX7_holds.cls ≠ "java/lang/invoke/VarHandle" ∧ (parseMethodDescriptor yX7_holds.desc).map (fun d => d.parameters.length) = some 3 := by decide +kernel
theorem kmw_holds {X : JC} {A : Nat → Prop} {Q : State → Prop} {P : Heap → Prop} {nL k n pc : Nat} {lv : List (Nat × Value)} {st : List Value} {own : String} {cc : ByteArray} {ret : Option FieldType} {F LL mc ms ix : Nat} {x0 : Int32} {x1 : Int32} {x2 : Int32} {Post : Int32 → Prop} (hX : JX X own cc nL ret F LL mc ms) (hKP : jj_Keeps P) (hlk : (Cond.methodLink own ix yX7_holds) ∈ lw_all) (hF : 0 + 1 ≤ F) (hL : 8 + (3 + 11) + 0 ≤ LL) (hk : k ≤ mc) (hk2 : n ≤ ms) (hw : (st.map fun v => v.category).sum ≤ 8) (d : decode cc pc = .ok (.invokestatic ix, 3)) (q : Nat) (hq : pc + 3 = q) (h : mw_holds x0 x1 x2 Post) (kk : ∀ r : Int32, jj_z r → Post r → JJ X A Q nL P k n q lv (.int r :: st)) : JJ X A Q nL P k n pc lv (.int x2 :: .int x1 :: .int x0 :: st) :=
  js_callz (na := 3) (As := [.int x0, .int x1, .int x2]) hX hKP (mmw_holds (jj_l X) x0 x1 x2 Post h) hlk q1811 q129 q1812 hd_mw_holds rfl rfl hw hF hL hk hk2 d q hq kk
def mw_stands_B111 (Post : Int32 → MS → Prop) (x2 : Int32) (x4 : Int32) (x5 : Int32) (s0 : Int32) (s1 : Int32) (u : MS) : Prop :=
  vp_in x5 19800 ∧
  (¬ (x2 + (jm_i u 1 x5.toNatClampNeg)) = x4 →
    mw_holds s1 s0 (0 : Int32) (fun r130 =>
      Post r130 u)) ∧
  ((x2 + (jm_i u 1 x5.toNatClampNeg)) = x4 →
    mw_holds s1 s0 (1 : Int32) (fun r130 =>
      Post r130 u))
def mw_stands_L26_S (Post : Int32 → MS → Prop) (x2 : Int32) (x3 : Int32) (x4 : Int32) (x5 : Int32) (R : Int32 → MS → Prop) (x6 : Int32) (u : MS) : Prop :=
  vp_in x5 19800 ∧
  ((jm_i u 1 x5.toNatClampNeg) ≤ x6 →
    vp_in (x5 + (11 : Int32)) 19800 ∧
    (¬ x2 = x3 →
      mw_stands_B111 Post x2 x4 x5 (0 : Int32) (jm_i u 1 (x5 + (11 : Int32)).toNatClampNeg) u) ∧
    (x2 = x3 →
      mw_stands_B111 Post x2 x4 x5 (1 : Int32) (jm_i u 1 (x5 + (11 : Int32)).toNatClampNeg) u)) ∧
  (¬ (jm_i u 1 x5.toNatClampNeg) ≤ x6 →
    mw_byteOf (x2 + x6) u (fun r43 u43 =>
      mw_letterOf r43 (fun r46 =>
        vp_in ((x5 + (1 : Int32)) + x6) 19800 ∧
        (¬ r46 = (jm_i u43 1 ((x5 + (1 : Int32)) + x6).toNatClampNeg) →
          Post (0 : Int32) u43) ∧
        (r46 = (jm_i u43 1 ((x5 + (1 : Int32)) + x6).toNatClampNeg) →
          (x6 ≤ 0 →
            ∀ v85 : Int32, v85 = x6 + (1 : Int32) →
            R v85 u43) ∧
          (¬ x6 ≤ 0 →
            mw_byteOf (x2 + x6) u43 (fun r74 u74 =>
              mw_isGreat r74 (fun r77 =>
                (r77 = 0 →
                  ∀ v85 : Int32, v85 = x6 + (1 : Int32) →
                  R v85 u74) ∧
                (¬ r77 = 0 →
                  Post (0 : Int32) u74))))))))
def mw_stands_L26 (Post : Int32 → MS → Prop) (x2 : Int32) (x3 : Int32) (x4 : Int32) (x5 : Int32) : Nat → Int32 → MS → Prop
  | 0 => fun _ _ => False
  | n + 1 => fun x6 u => mw_stands_L26_S Post x2 x3 x4 x5 (mw_stands_L26 Post x2 x3 x4 x5 n) x6 u
/-- RaisedPressModel.stands(IIII)Z -/
def mw_stands (x1 : Int32) (x2 : Int32) (x3 : Int32) (x4 : Int32) (u : MS) (Post : Int32 → MS → Prop) : Prop :=
  mw_ruleAt (0 : Int32) x1 (fun r2 =>
    vp_in r2 19800 ∧
    ((x2 + (jm_i u 1 r2.toNatClampNeg)) ≤ x4 →
      ∃ n, mw_stands_L26 Post x2 x3 x4 r2 n (0 : Int32) u) ∧
    (¬ (x2 + (jm_i u 1 r2.toNatClampNeg)) ≤ x4 →
      Post (0 : Int32) u))
set_option maxHeartbeats 4000000 in
set_option maxRecDepth 100000 in
theorem tmw_stands_B111 {X : JC} {D : va_G} {dA ad : Nat → Nat} {Post : Int32 → MS → Prop} {x2 : Int32} {x4 : Int32} {x5 : Int32} {s0 : Int32} {s1 : Int32} {u : MS} (hX : JX X yX7_stands.cls cX7_stands 7 (Option.some Jvm.ClassFile.FieldType.boolean) 2 40 0 0) (hK : KM D dA (jj_s X)) (hD : MD ad) (h : mw_stands_B111 Post x2 x4 x5 s0 s1 u) : JJ X (AM ad) (jj_Q X (va_Qi (fun r u => Post r u ∧ jj_z r) (jm_B D dA ad) (AM ad)) 0 0 (AM ad)) 7 (MW D dA ad u) 0 0 111 [(0, .ref (ad 0)), (2, .int x2), (4, .int x4), (5, .int x5)] [.int s0, .int s1] := by
  unfold mw_stands_B111 at h
  refine jj_iload_n hX dX7_stands_111 1 rfl 112 rfl ?_
  refine jt_0 hX hK dX7_stands_112 0 rfl dX7_stands_113 q1484 116 rfl rfl ?_
  refine jj_iload hX dX7_stands_116 3 rfl 118 rfl ?_
  obtain ⟨hi118, h⟩ := h
  refine jr_1 hX hK _ rfl hi118 dX7_stands_118 119 rfl ?_
  refine jj_iadd hX dX7_stands_119 120 rfl ?_
  refine jj_iload hX dX7_stands_120 2 rfl 122 rfl ?_
  refine jj_icmp_ne hX dX7_stands_122 129 125 (by decide) rfl (fun c122 => ?_) (fun c122 => ?_)
  · have h := h.1 c122
    refine jj_iconst hX dX7_stands_129 ci_0 130 rfl ?_
    refine kmw_holds hX MW.keeps q1810 (Nat.le_of_ble_eq_true rfl) (Nat.le_of_ble_eq_true rfl) (Nat.zero_le _) (Nat.zero_le _) (Nat.le_of_ble_eq_true rfl) dX7_stands_130 133 rfl h (fun r130 hb130 h => ?_)
    exact jj_retz (post := Post) (u := u) hX dX7_stands_133 (Nat.le_refl 0) (Nat.le_refl 0) jm_hB hb130 h
  · have h := h.2 c122
    refine jj_iconst hX dX7_stands_125 ci_1 126 rfl ?_
    refine jj_goto hX dX7_stands_126 130 (by decide) ?_
    refine kmw_holds hX MW.keeps q1810 (Nat.le_of_ble_eq_true rfl) (Nat.le_of_ble_eq_true rfl) (Nat.zero_le _) (Nat.zero_le _) (Nat.le_of_ble_eq_true rfl) dX7_stands_130 133 rfl h (fun r130 hb130 h => ?_)
    exact jj_retz (post := Post) (u := u) hX dX7_stands_133 (Nat.le_refl 0) (Nat.le_refl 0) jm_hB hb130 h
set_option maxHeartbeats 4000000 in
set_option maxRecDepth 100000 in
theorem tmw_stands_L26 {X : JC} {D : va_G} {dA ad : Nat → Nat} {Post : Int32 → MS → Prop} {x2 : Int32} {x3 : Int32} {x4 : Int32} {x5 : Int32} (hX : JX X yX7_stands.cls cX7_stands 7 (Option.some Jvm.ClassFile.FieldType.boolean) 2 40 0 0) (hK : KM D dA (jj_s X)) (hD : MD ad) : ∀ (n : Nat) (x6 : Int32) (u : MS), mw_stands_L26 Post x2 x3 x4 x5 n x6 u → JJ X (AM ad) (jj_Q X (va_Qi (fun r u => Post r u ∧ jj_z r) (jm_B D dA ad) (AM ad)) 0 0 (AM ad)) 7 (MW D dA ad u) 0 0 26 [(0, .ref (ad 0)), (2, .int x2), (3, .int x3), (4, .int x4), (5, .int x5), (6, .int x6)] [] := by
  intro n
  induction n with
  | zero =>
    intro x6 u h
    exact h.elim
  | succ n ih =>
    intro x6 u h
    have h : mw_stands_L26_S Post x2 x3 x4 x5 (mw_stands_L26 Post x2 x3 x4 x5 n) x6 u := h
    unfold mw_stands_L26_S at h
    refine jj_iload hX dX7_stands_26 5 rfl 28 rfl ?_
    refine jt_0 hX hK dX7_stands_28 0 rfl dX7_stands_29 q1484 32 rfl rfl ?_
    refine jj_iload hX dX7_stands_32 4 rfl 34 rfl ?_
    obtain ⟨hi34, h⟩ := h
    refine jr_1 hX hK _ rfl hi34 dX7_stands_34 35 rfl ?_
    refine jj_icmp_ge hX dX7_stands_35 91 38 (by decide) rfl (fun c35 => ?_) (fun c35 => ?_)
    · have h := h.1 c35
      refine jt_0 hX hK dX7_stands_91 0 rfl dX7_stands_92 q1484 95 rfl rfl ?_
      refine jj_iload hX dX7_stands_95 4 rfl 97 rfl ?_
      refine jj_bipush hX dX7_stands_97 cb_11 99 rfl ?_
      refine jj_iadd hX dX7_stands_99 100 rfl ?_
      obtain ⟨hi100, h⟩ := h
      refine jr_1 hX hK _ rfl hi100 dX7_stands_100 101 rfl ?_
      refine jj_iload_n hX dX7_stands_101 1 rfl 102 rfl ?_
      refine jj_iload_n hX dX7_stands_102 2 rfl 103 rfl ?_
      refine jj_icmp_ne hX dX7_stands_103 110 106 (by decide) rfl (fun c103 => ?_) (fun c103 => ?_)
      · have h := h.1 c103
        refine jj_iconst hX dX7_stands_110 ci_0 111 rfl ?_
        refine jj_sub (lv2 := [(0, .ref (ad 0)), (2, .int x2), (4, .int x4), (5, .int x5)]) [0, 1, 3, 4] rfl ?_
        exact tmw_stands_B111 hX hK hD h
      · have h := h.2 c103
        refine jj_iconst hX dX7_stands_106 ci_1 107 rfl ?_
        refine jj_goto hX dX7_stands_107 111 (by decide) ?_
        refine jj_sub (lv2 := [(0, .ref (ad 0)), (2, .int x2), (4, .int x4), (5, .int x5)]) [0, 1, 3, 4] rfl ?_
        exact tmw_stands_B111 hX hK hD h
    · have h := h.2 c35
      refine jj_aload_n hX dX7_stands_38 0 rfl 39 rfl ?_
      refine jj_iload_n hX dX7_stands_39 1 rfl 40 rfl ?_
      refine jj_iload hX dX7_stands_40 5 rfl 42 rfl ?_
      refine jj_iadd hX dX7_stands_42 43 rfl ?_
      refine kmw_byteOf hX hK hD q1764 (Nat.le_of_ble_eq_true rfl) (Nat.le_of_ble_eq_true rfl) (Nat.zero_le _) (Nat.zero_le _) (Nat.le_of_ble_eq_true rfl) dX7_stands_43 46 rfl h (fun r43 u43 h => ?_)
      refine kmw_letterOf hX MW.keeps q1807 (Nat.le_of_ble_eq_true rfl) (Nat.le_of_ble_eq_true rfl) (Nat.zero_le _) (Nat.zero_le _) (Nat.le_of_ble_eq_true rfl) dX7_stands_46 49 rfl h (fun r46 h => ?_)
      refine jt_0 hX hK dX7_stands_49 0 rfl dX7_stands_50 q1484 53 rfl rfl ?_
      refine jj_iload hX dX7_stands_53 4 rfl 55 rfl ?_
      refine jj_iconst hX dX7_stands_55 ci_1 56 rfl ?_
      refine jj_iadd hX dX7_stands_56 57 rfl ?_
      refine jj_iload hX dX7_stands_57 5 rfl 59 rfl ?_
      refine jj_iadd hX dX7_stands_59 60 rfl ?_
      obtain ⟨hi60, h⟩ := h
      refine jr_1 hX hK _ rfl hi60 dX7_stands_60 61 rfl ?_
      refine jj_icmp_ne hX dX7_stands_61 83 64 (by decide) rfl (fun c61 => ?_) (fun c61 => ?_)
      · have h := h.1 c61
        refine jj_iconst hX dX7_stands_83 ci_0 84 rfl ?_
        exact jj_retz (post := Post) (u := u43) hX dX7_stands_84 (Nat.le_refl 0) (Nat.le_refl 0) jm_hB jj_z0 h
      · have h := h.2 c61
        refine jj_iload hX dX7_stands_64 5 rfl 66 rfl ?_
        refine jj_if_le hX dX7_stands_66 85 69 (by decide) rfl (fun c66 => ?_) (fun c66 => ?_)
        · have h := h.1 c66
          obtain ⟨v85, e85⟩ : ∃ y : Int32, y = x6 + (1 : Int32) := ⟨_, rfl⟩
          have h := h v85 e85
          refine jj_iinc (v := v85) (lv2 := [(0, .ref (ad 0)), (2, .int x2), (3, .int x3), (4, .int x4), (5, .int x5), (6, .int v85)]) hX dX7_stands_85 5 rfl (by rw [e85, ci_1]) (Nat.le_of_ble_eq_true rfl) [1, 2, 3, 4, 5, 0] rfl 88 rfl ?_
          refine jj_goto hX dX7_stands_88 26 (by decide) ?_
          exact ih _ _ h
        · have h := h.2 c66
          refine jj_aload_n hX dX7_stands_69 0 rfl 70 rfl ?_
          refine jj_iload_n hX dX7_stands_70 1 rfl 71 rfl ?_
          refine jj_iload hX dX7_stands_71 5 rfl 73 rfl ?_
          refine jj_iadd hX dX7_stands_73 74 rfl ?_
          refine kmw_byteOf hX hK hD q1764 (Nat.le_of_ble_eq_true rfl) (Nat.le_of_ble_eq_true rfl) (Nat.zero_le _) (Nat.zero_le _) (Nat.le_of_ble_eq_true rfl) dX7_stands_74 77 rfl h (fun r74 u74 h => ?_)
          refine kmw_isGreat hX MW.keeps q1774 (Nat.le_of_ble_eq_true rfl) (Nat.le_of_ble_eq_true rfl) (Nat.zero_le _) (Nat.zero_le _) (Nat.le_of_ble_eq_true rfl) dX7_stands_77 80 rfl h (fun r77 hb77 h => ?_)
          refine jj_if_eq hX dX7_stands_80 85 83 (by decide) rfl (fun c80 => ?_) (fun c80 => ?_)
          · have h := h.1 c80
            obtain ⟨v85, e85⟩ : ∃ y : Int32, y = x6 + (1 : Int32) := ⟨_, rfl⟩
            have h := h v85 e85
            refine jj_iinc (v := v85) (lv2 := [(0, .ref (ad 0)), (2, .int x2), (3, .int x3), (4, .int x4), (5, .int x5), (6, .int v85)]) hX dX7_stands_85 5 rfl (by rw [e85, ci_1]) (Nat.le_of_ble_eq_true rfl) [1, 2, 3, 4, 5, 0] rfl 88 rfl ?_
            refine jj_goto hX dX7_stands_88 26 (by decide) ?_
            exact ih _ _ h
          · have h := h.2 c80
            refine jj_iconst hX dX7_stands_83 ci_0 84 rfl ?_
            exact jj_retz (post := Post) (u := u74) hX dX7_stands_84 (Nat.le_refl 0) (Nat.le_refl 0) jm_hB jj_z0 h
set_option maxHeartbeats 4000000 in
set_option maxRecDepth 100000 in
theorem mmw_stands (l : Launch) (D : va_G) (dA ad : Nat → Nat) (hD : MD ad) (x1 : Int32) (x2 : Int32) (x3 : Int32) (x4 : Int32) (u : MS) (Post : Int32 → MS → Prop) (h : mw_stands x1 x2 x3 x4 u Post) : Met l yX7_stands (ws_ yX7_stands cX7_stands 7 (Option.some Jvm.ClassFile.FieldType.boolean)) (jm_rm 2 40) (jm_Pc D dA ad u [.int x1, .int x2, .int x3, .int x4]) (va_Qi (fun r u => Post r u ∧ jj_z r) (jm_B D dA ad) (AM ad)) 0 0 (AM ad) := by
  refine jm_start [.int x1, .int x2, .int x3, .int x4] [(0, .ref (ad 0)), (1, .int x1), (2, .int x2), (3, .int x3), (4, .int x4)] (by decide) (Nat.le_of_ble_eq_true rfl) rfl (fun X hX hK => ?_)
  unfold mw_stands at h
  refine jj_iconst hX dX7_stands_0 ci_0 1 rfl ?_
  refine jj_iload_n hX dX7_stands_1 1 rfl 2 rfl ?_
  refine kmw_ruleAt hX MW.keeps q1721 (Nat.le_of_ble_eq_true rfl) (Nat.le_of_ble_eq_true rfl) (Nat.zero_le _) (Nat.zero_le _) (Nat.le_of_ble_eq_true rfl) dX7_stands_2 5 rfl h (fun r2 h => ?_)
  refine jj_istore (lv2 := [(0, .ref (ad 0)), (2, .int x2), (3, .int x3), (4, .int x4), (5, .int r2)]) hX dX7_stands_5 (Nat.le_of_ble_eq_true rfl) [1, 3, 4, 5, 0] rfl 7 rfl ?_
  refine jj_iload_n hX dX7_stands_7 1 rfl 8 rfl ?_
  refine jt_0 hX hK dX7_stands_8 0 rfl dX7_stands_9 q1484 12 rfl rfl ?_
  refine jj_iload hX dX7_stands_12 4 rfl 14 rfl ?_
  obtain ⟨hi14, h⟩ := h
  refine jr_1 hX hK _ rfl hi14 dX7_stands_14 15 rfl ?_
  refine jj_iadd hX dX7_stands_15 16 rfl ?_
  refine jj_iload hX dX7_stands_16 3 rfl 18 rfl ?_
  refine jj_icmp_le hX dX7_stands_18 23 21 (by decide) rfl (fun c18 => ?_) (fun c18 => ?_)
  · have h := h.1 c18
    refine jj_iconst hX dX7_stands_23 ci_0 24 rfl ?_
    refine jj_istore (lv2 := [(0, .ref (ad 0)), (2, .int x2), (3, .int x3), (4, .int x4), (5, .int r2), (6, .int (0 : Int32))]) hX dX7_stands_24 (Nat.le_of_ble_eq_true rfl) [1, 2, 3, 4, 5, 0] rfl 26 rfl ?_
    obtain ⟨n9, h⟩ := h
    exact tmw_stands_L26 hX hK hD n9 _ _ h
  · have h := h.2 c18
    refine jj_iconst hX dX7_stands_21 ci_0 22 rfl ?_
    exact jj_retz (post := Post) (u := u) hX dX7_stands_22 (Nat.le_refl 0) (Nat.le_refl 0) jm_hB jj_z0 h
theorem hd_mw_stands : yX7_stands.cls = RX7 ∧ yX7_stands.cls ≠ "java/lang/invoke/MethodHandle" ∧ yX7_stands.cls ≠ "java/lang/invoke/VarHandle" ∧ (parseMethodDescriptor yX7_stands.desc).map (fun d => d.parameters.length) = some 4 := by decide +kernel
theorem kmw_stands {X : JC} {Q : State → Prop} {nL k n pc : Nat} {lv : List (Nat × Value)} {st : List Value} {own : String} {cc : ByteArray} {ret : Option FieldType} {F LL mc ms ix : Nat} {D : va_G} {dA ad : Nat → Nat} {x1 : Int32} {x2 : Int32} {x3 : Int32} {x4 : Int32} {u : MS} {Post : Int32 → MS → Prop} (hX : JX X own cc nL ret F LL mc ms) (hK : KM D dA (jj_s X)) (hD : MD ad) (hlk : (Cond.methodLink own ix yX7_stands) ∈ lw_all) (hF : 2 + 1 ≤ F) (hL : 8 + (7 + 11) + 40 ≤ LL) (hk : k ≤ mc) (hk2 : n ≤ ms) (hw : (st.map fun v => v.category).sum ≤ 8) (d : decode cc pc = .ok (.invokevirtual ix, 3)) (q : Nat) (hq : pc + 3 = q) (h : mw_stands x1 x2 x3 x4 u Post) (kk : ∀ (r : Int32) (u2 : MS), jj_z r → Post r u2 → JJ X (AM ad) Q nL (MW D dA ad u2) k n q lv (.int r :: st)) : JJ X (AM ad) Q nL (MW D dA ad u) k n pc lv (.int x4 :: .int x3 :: .int x2 :: .int x1 :: .ref (ad 0) :: st) :=
  jm_callz (na := 4) (As := [.int x1, .int x2, .int x3, .int x4]) hX hK (mmw_stands (jj_l X) D dA ad hD x1 x2 x3 x4 u Post h) hlk q1805 qs84 q129 q1806 hd_mw_stands rfl rfl hw hF hL hk hk2 d q hq kk
def mw_taking_L6_S (Post : Int32 → MS → Prop) (x1 : Int32) (x2 : Int32) (x3 : Int32) (x4 : Int32) (R : Int32 → Int32 → MS → Prop) (x5 : Int32) (x6 : Int32) (u : MS) : Prop :=
  ((jm_i u 1 0) ≤ x6 →
    Post x5 u) ∧
  (¬ (jm_i u 1 0) ≤ x6 →
    mw_isOut x4 x6 (fun r21 =>
      (¬ r21 = 0 →
        ∀ v74 : Int32, v74 = x6 + (1 : Int32) →
        R x5 v74 u) ∧
      (r21 = 0 →
        mw_stands x6 x1 x2 x3 u (fun r33 u33 =>
          (r33 = 0 →
            ∀ v74 : Int32, v74 = x6 + (1 : Int32) →
            R x5 v74 u33) ∧
          (¬ r33 = 0 →
            (x5 = (-1 : Int32) →
              ∀ v74 : Int32, v74 = x6 + (1 : Int32) →
              R x6 v74 u33) ∧
            (¬ x5 = (-1 : Int32) →
              mw_ruleAt (0 : Int32) x6 (fun r52 =>
                vp_in r52 19800 ∧
                mw_ruleAt (0 : Int32) x5 (fun r63 =>
                  vp_in r63 19800 ∧
                  ((jm_i u33 1 r52.toNatClampNeg) ≤ (jm_i u33 1 r63.toNatClampNeg) →
                    ∀ v74 : Int32, v74 = x6 + (1 : Int32) →
                    R x5 v74 u33) ∧
                  (¬ (jm_i u33 1 r52.toNatClampNeg) ≤ (jm_i u33 1 r63.toNatClampNeg) →
                    ∀ v74 : Int32, v74 = x6 + (1 : Int32) →
                    R x6 v74 u33)))))))))
def mw_taking_L6 (Post : Int32 → MS → Prop) (x1 : Int32) (x2 : Int32) (x3 : Int32) (x4 : Int32) : Nat → Int32 → Int32 → MS → Prop
  | 0 => fun _ _ _ => False
  | n + 1 => fun x5 x6 u => mw_taking_L6_S Post x1 x2 x3 x4 (mw_taking_L6 Post x1 x2 x3 x4 n) x5 x6 u
/-- RaisedPressModel.taking(IIII)I -/
def mw_taking (x1 : Int32) (x2 : Int32) (x3 : Int32) (x4 : Int32) (u : MS) (Post : Int32 → MS → Prop) : Prop :=
  ∃ n, mw_taking_L6 Post x1 x2 x3 x4 n (-1 : Int32) (0 : Int32) u
set_option maxHeartbeats 4000000 in
set_option maxRecDepth 100000 in
theorem tmw_taking_L6 {X : JC} {D : va_G} {dA ad : Nat → Nat} {Post : Int32 → MS → Prop} {x1 : Int32} {x2 : Int32} {x3 : Int32} {x4 : Int32} (hX : JX X yX7_taking.cls cX7_taking 7 (Option.some Jvm.ClassFile.FieldType.int) 3 66 0 0) (hK : KM D dA (jj_s X)) (hD : MD ad) : ∀ (n : Nat) (x5 : Int32) (x6 : Int32) (u : MS), mw_taking_L6 Post x1 x2 x3 x4 n x5 x6 u → JJ X (AM ad) (jj_Q X (va_Qi Post (jm_B D dA ad) (AM ad)) 0 0 (AM ad)) 7 (MW D dA ad u) 0 0 6 [(0, .ref (ad 0)), (1, .int x1), (2, .int x2), (3, .int x3), (4, .int x4), (5, .int x5), (6, .int x6)] [] := by
  intro n
  induction n with
  | zero =>
    intro x5 x6 u h
    exact h.elim
  | succ n ih =>
    intro x5 x6 u h
    have h : mw_taking_L6_S Post x1 x2 x3 x4 (mw_taking_L6 Post x1 x2 x3 x4 n) x5 x6 u := h
    unfold mw_taking_L6_S at h
    refine jj_iload hX dX7_taking_6 6 rfl 8 rfl ?_
    refine jt_0 hX hK dX7_taking_8 0 rfl dX7_taking_9 q1484 12 rfl rfl ?_
    refine jj_iconst hX dX7_taking_12 ci_0 13 rfl ?_
    refine jr_1 hX hK 0 kc_0 vi_1_0 dX7_taking_13 14 rfl ?_
    refine jj_icmp_ge hX dX7_taking_14 80 17 (by decide) rfl (fun c14 => ?_) (fun c14 => ?_)
    · have h := h.1 c14
      refine jj_iload hX dX7_taking_80 5 rfl 82 rfl ?_
      exact jj_reti (post := Post) (u := u) hX dX7_taking_82 (Nat.le_refl 0) (Nat.le_refl 0) jm_hB h
    · have h := h.2 c14
      refine jj_iload hX dX7_taking_17 4 rfl 19 rfl ?_
      refine jj_iload hX dX7_taking_19 6 rfl 21 rfl ?_
      refine kmw_isOut hX MW.keeps q1800 (Nat.le_of_ble_eq_true rfl) (Nat.le_of_ble_eq_true rfl) (Nat.zero_le _) (Nat.zero_le _) (Nat.le_of_ble_eq_true rfl) dX7_taking_21 24 rfl h (fun r21 hb21 h => ?_)
      refine jj_if_ne hX dX7_taking_24 74 27 (by decide) rfl (fun c24 => ?_) (fun c24 => ?_)
      · have h := h.1 c24
        obtain ⟨v74, e74⟩ : ∃ y : Int32, y = x6 + (1 : Int32) := ⟨_, rfl⟩
        have h := h v74 e74
        refine jj_iinc (v := v74) (lv2 := [(0, .ref (ad 0)), (1, .int x1), (2, .int x2), (3, .int x3), (4, .int x4), (5, .int x5), (6, .int v74)]) hX dX7_taking_74 6 rfl (by rw [e74, ci_1]) (Nat.le_of_ble_eq_true rfl) [1, 2, 3, 4, 5, 6, 0] rfl 77 rfl ?_
        refine jj_goto hX dX7_taking_77 6 (by decide) ?_
        exact ih _ _ _ h
      · have h := h.2 c24
        refine jj_aload_n hX dX7_taking_27 0 rfl 28 rfl ?_
        refine jj_iload hX dX7_taking_28 6 rfl 30 rfl ?_
        refine jj_iload_n hX dX7_taking_30 1 rfl 31 rfl ?_
        refine jj_iload_n hX dX7_taking_31 2 rfl 32 rfl ?_
        refine jj_iload_n hX dX7_taking_32 3 rfl 33 rfl ?_
        refine kmw_stands hX hK hD q1803 (Nat.le_of_ble_eq_true rfl) (Nat.le_of_ble_eq_true rfl) (Nat.zero_le _) (Nat.zero_le _) (Nat.le_of_ble_eq_true rfl) dX7_taking_33 36 rfl h (fun r33 u33 hb33 h => ?_)
        refine jj_if_eq hX dX7_taking_36 74 39 (by decide) rfl (fun c36 => ?_) (fun c36 => ?_)
        · have h := h.1 c36
          obtain ⟨v74, e74⟩ : ∃ y : Int32, y = x6 + (1 : Int32) := ⟨_, rfl⟩
          have h := h v74 e74
          refine jj_iinc (v := v74) (lv2 := [(0, .ref (ad 0)), (1, .int x1), (2, .int x2), (3, .int x3), (4, .int x4), (5, .int x5), (6, .int v74)]) hX dX7_taking_74 6 rfl (by rw [e74, ci_1]) (Nat.le_of_ble_eq_true rfl) [1, 2, 3, 4, 5, 6, 0] rfl 77 rfl ?_
          refine jj_goto hX dX7_taking_77 6 (by decide) ?_
          exact ih _ _ _ h
        · have h := h.2 c36
          refine jj_iload hX dX7_taking_39 5 rfl 41 rfl ?_
          refine jj_iconst hX dX7_taking_41 ci_m1 42 rfl ?_
          refine jj_icmp_eq hX dX7_taking_42 70 45 (by decide) rfl (fun c42 => ?_) (fun c42 => ?_)
          · have h := h.1 c42
            refine jj_iload hX dX7_taking_70 6 rfl 72 rfl ?_
            refine jj_istore (lv2 := [(0, .ref (ad 0)), (1, .int x1), (2, .int x2), (3, .int x3), (4, .int x4), (5, .int x6), (6, .int x6)]) hX dX7_taking_72 (Nat.le_of_ble_eq_true rfl) [1, 2, 3, 4, 5, 0, 6] rfl 74 rfl ?_
            obtain ⟨v74, e74⟩ : ∃ y : Int32, y = x6 + (1 : Int32) := ⟨_, rfl⟩
            have h := h v74 e74
            refine jj_iinc (v := v74) (lv2 := [(0, .ref (ad 0)), (1, .int x1), (2, .int x2), (3, .int x3), (4, .int x4), (5, .int x6), (6, .int v74)]) hX dX7_taking_74 6 rfl (by rw [e74, ci_1]) (Nat.le_of_ble_eq_true rfl) [1, 2, 3, 4, 5, 6, 0] rfl 77 rfl ?_
            refine jj_goto hX dX7_taking_77 6 (by decide) ?_
            exact ih _ _ _ h
          · have h := h.2 c42
            refine jt_0 hX hK dX7_taking_45 0 rfl dX7_taking_46 q1484 49 rfl rfl ?_
            refine jj_iconst hX dX7_taking_49 ci_0 50 rfl ?_
            refine jj_iload hX dX7_taking_50 6 rfl 52 rfl ?_
            refine kmw_ruleAt hX MW.keeps q1721 (Nat.le_of_ble_eq_true rfl) (Nat.le_of_ble_eq_true rfl) (Nat.zero_le _) (Nat.zero_le _) (Nat.le_of_ble_eq_true rfl) dX7_taking_52 55 rfl h (fun r52 h => ?_)
            obtain ⟨hi55, h⟩ := h
            refine jr_1 hX hK _ rfl hi55 dX7_taking_55 56 rfl ?_
            refine jt_0 hX hK dX7_taking_56 0 rfl dX7_taking_57 q1484 60 rfl rfl ?_
            refine jj_iconst hX dX7_taking_60 ci_0 61 rfl ?_
            refine jj_iload hX dX7_taking_61 5 rfl 63 rfl ?_
            refine kmw_ruleAt hX MW.keeps q1721 (Nat.le_of_ble_eq_true rfl) (Nat.le_of_ble_eq_true rfl) (Nat.zero_le _) (Nat.zero_le _) (Nat.le_of_ble_eq_true rfl) dX7_taking_63 66 rfl h (fun r63 h => ?_)
            obtain ⟨hi66, h⟩ := h
            refine jr_1 hX hK _ rfl hi66 dX7_taking_66 67 rfl ?_
            refine jj_icmp_le hX dX7_taking_67 74 70 (by decide) rfl (fun c67 => ?_) (fun c67 => ?_)
            · have h := h.1 c67
              obtain ⟨v74, e74⟩ : ∃ y : Int32, y = x6 + (1 : Int32) := ⟨_, rfl⟩
              have h := h v74 e74
              refine jj_iinc (v := v74) (lv2 := [(0, .ref (ad 0)), (1, .int x1), (2, .int x2), (3, .int x3), (4, .int x4), (5, .int x5), (6, .int v74)]) hX dX7_taking_74 6 rfl (by rw [e74, ci_1]) (Nat.le_of_ble_eq_true rfl) [1, 2, 3, 4, 5, 6, 0] rfl 77 rfl ?_
              refine jj_goto hX dX7_taking_77 6 (by decide) ?_
              exact ih _ _ _ h
            · have h := h.2 c67
              refine jj_iload hX dX7_taking_70 6 rfl 72 rfl ?_
              refine jj_istore (lv2 := [(0, .ref (ad 0)), (1, .int x1), (2, .int x2), (3, .int x3), (4, .int x4), (5, .int x6), (6, .int x6)]) hX dX7_taking_72 (Nat.le_of_ble_eq_true rfl) [1, 2, 3, 4, 5, 0, 6] rfl 74 rfl ?_
              obtain ⟨v74, e74⟩ : ∃ y : Int32, y = x6 + (1 : Int32) := ⟨_, rfl⟩
              have h := h v74 e74
              refine jj_iinc (v := v74) (lv2 := [(0, .ref (ad 0)), (1, .int x1), (2, .int x2), (3, .int x3), (4, .int x4), (5, .int x6), (6, .int v74)]) hX dX7_taking_74 6 rfl (by rw [e74, ci_1]) (Nat.le_of_ble_eq_true rfl) [1, 2, 3, 4, 5, 6, 0] rfl 77 rfl ?_
              refine jj_goto hX dX7_taking_77 6 (by decide) ?_
              exact ih _ _ _ h
set_option maxHeartbeats 4000000 in
set_option maxRecDepth 100000 in
theorem mmw_taking (l : Launch) (D : va_G) (dA ad : Nat → Nat) (hD : MD ad) (x1 : Int32) (x2 : Int32) (x3 : Int32) (x4 : Int32) (u : MS) (Post : Int32 → MS → Prop) (h : mw_taking x1 x2 x3 x4 u Post) : Met l yX7_taking (ws_ yX7_taking cX7_taking 7 (Option.some Jvm.ClassFile.FieldType.int)) (jm_rm 3 66) (jm_Pc D dA ad u [.int x1, .int x2, .int x3, .int x4]) (va_Qi Post (jm_B D dA ad) (AM ad)) 0 0 (AM ad) := by
  refine jm_start [.int x1, .int x2, .int x3, .int x4] [(0, .ref (ad 0)), (1, .int x1), (2, .int x2), (3, .int x3), (4, .int x4)] (by decide) (Nat.le_of_ble_eq_true rfl) rfl (fun X hX hK => ?_)
  unfold mw_taking at h
  refine jj_iconst hX dX7_taking_0 ci_m1 1 rfl ?_
  refine jj_istore (lv2 := [(0, .ref (ad 0)), (1, .int x1), (2, .int x2), (3, .int x3), (4, .int x4), (5, .int (-1 : Int32))]) hX dX7_taking_1 (Nat.le_of_ble_eq_true rfl) [1, 2, 3, 4, 5, 0] rfl 3 rfl ?_
  refine jj_iconst hX dX7_taking_3 ci_0 4 rfl ?_
  refine jj_istore (lv2 := [(0, .ref (ad 0)), (1, .int x1), (2, .int x2), (3, .int x3), (4, .int x4), (5, .int (-1 : Int32)), (6, .int (0 : Int32))]) hX dX7_taking_4 (Nat.le_of_ble_eq_true rfl) [1, 2, 3, 4, 5, 6, 0] rfl 6 rfl ?_
  obtain ⟨n9, h⟩ := h
  exact tmw_taking_L6 hX hK hD n9 _ _ _ h
theorem hd_mw_taking : yX7_taking.cls = RX7 ∧ yX7_taking.cls ≠ "java/lang/invoke/MethodHandle" ∧ yX7_taking.cls ≠ "java/lang/invoke/VarHandle" ∧ (parseMethodDescriptor yX7_taking.desc).map (fun d => d.parameters.length) = some 4 := by decide +kernel
theorem kmw_taking {X : JC} {Q : State → Prop} {nL k n pc : Nat} {lv : List (Nat × Value)} {st : List Value} {own : String} {cc : ByteArray} {ret : Option FieldType} {F LL mc ms ix : Nat} {D : va_G} {dA ad : Nat → Nat} {x1 : Int32} {x2 : Int32} {x3 : Int32} {x4 : Int32} {u : MS} {Post : Int32 → MS → Prop} (hX : JX X own cc nL ret F LL mc ms) (hK : KM D dA (jj_s X)) (hD : MD ad) (hlk : (Cond.methodLink own ix yX7_taking) ∈ lw_all) (hF : 3 + 1 ≤ F) (hL : 8 + (7 + 11) + 66 ≤ LL) (hk : k ≤ mc) (hk2 : n ≤ ms) (hw : (st.map fun v => v.category).sum ≤ 8) (d : decode cc pc = .ok (.invokevirtual ix, 3)) (q : Nat) (hq : pc + 3 = q) (h : mw_taking x1 x2 x3 x4 u Post) (kk : ∀ (r : Int32) (u2 : MS), Post r u2 → JJ X (AM ad) Q nL (MW D dA ad u2) k n q lv (.int r :: st)) : JJ X (AM ad) Q nL (MW D dA ad u) k n pc lv (.int x4 :: .int x3 :: .int x2 :: .int x1 :: .ref (ad 0) :: st) :=
  jm_calli (na := 4) (As := [.int x1, .int x2, .int x3, .int x4]) hX hK (mmw_taking (jj_l X) D dA ad hD x1 x2 x3 x4 u Post h) hlk q1798 qs83 q129 q1799 hd_mw_taking rfl rfl hw hF hL hk hk2 d q hq kk
def mw_setsRule_L8_S (Post : Int32 → MS → Prop) (x1 : Int32) (x2 : Int32) (R : Int32 → MS → Prop) (x3 : Int32) (u : MS) : Prop :=
  vp_in (x2 + (7 : Int32)) 19800 ∧
  ((jm_i u 1 (x2 + (7 : Int32)).toNatClampNeg) ≤ x3 →
    ∀ v54 : Int32, v54 = ((18510 : Int32) + x1) →
    vp_in v54 19800 ∧
    vp_in v54 19800 ∧
    ∀ u58 : MS, u58 = jm_s u 1 v54.toNatClampNeg ((jm_i u 1 v54.toNatClampNeg) + (1 : Int32)) →
    ∀ u70 : MS, u70 = jm_s u58 1 16510 ((jm_i u58 1 16510) + (1 : Int32)) →
    vp_in (x2 + (7 : Int32)) 19800 ∧
    Post (jm_i u70 1 (x2 + (7 : Int32)).toNatClampNeg) u70) ∧
  (¬ (jm_i u 1 (x2 + (7 : Int32)).toNatClampNeg) ≤ x3 →
    vp_in (((x2 + (7 : Int32)) + (1 : Int32)) + x3) 19800 ∧
    mw_sets (jm_i u 1 (((x2 + (7 : Int32)) + (1 : Int32)) + x3).toNatClampNeg) x1 u (fun u36 =>
      ∀ v39 : Int32, v39 = x3 + (1 : Int32) →
      R v39 u36))
def mw_setsRule_L8 (Post : Int32 → MS → Prop) (x1 : Int32) (x2 : Int32) : Nat → Int32 → MS → Prop
  | 0 => fun _ _ => False
  | n + 1 => fun x3 u => mw_setsRule_L8_S Post x1 x2 (mw_setsRule_L8 Post x1 x2 n) x3 u
/-- RaisedPressModel.setsRule(I)I -/
def mw_setsRule (x1 : Int32) (u : MS) (Post : Int32 → MS → Prop) : Prop :=
  mw_ruleAt (0 : Int32) x1 (fun r2 =>
    ∃ n, mw_setsRule_L8 Post x1 r2 n (0 : Int32) u)
set_option maxHeartbeats 4000000 in
set_option maxRecDepth 100000 in
theorem tmw_setsRule_L8 {X : JC} {D : va_G} {dA ad : Nat → Nat} {Post : Int32 → MS → Prop} {x1 : Int32} {x2 : Int32} (hX : JX X yX7_setsRule.cls cX7_setsRule 4 (Option.some Jvm.ClassFile.FieldType.int) 1 22 0 0) (hK : KM D dA (jj_s X)) (hD : MD ad) : ∀ (n : Nat) (x3 : Int32) (u : MS), mw_setsRule_L8 Post x1 x2 n x3 u → JJ X (AM ad) (jj_Q X (va_Qi Post (jm_B D dA ad) (AM ad)) 0 0 (AM ad)) 4 (MW D dA ad u) 0 0 8 [(0, .ref (ad 0)), (1, .int x1), (2, .int x2), (3, .int x3)] [] := by
  intro n
  induction n with
  | zero =>
    intro x3 u h
    exact h.elim
  | succ n ih =>
    intro x3 u h
    have h : mw_setsRule_L8_S Post x1 x2 (mw_setsRule_L8 Post x1 x2 n) x3 u := h
    unfold mw_setsRule_L8_S at h
    refine jj_iload_n hX dX7_setsRule_8 3 rfl 9 rfl ?_
    refine jt_0 hX hK dX7_setsRule_9 0 rfl dX7_setsRule_10 q1484 13 rfl rfl ?_
    refine jj_iload_n hX dX7_setsRule_13 2 rfl 14 rfl ?_
    refine jj_bipush hX dX7_setsRule_14 cb_7 16 rfl ?_
    refine jj_iadd hX dX7_setsRule_16 17 rfl ?_
    obtain ⟨hi17, h⟩ := h
    refine jr_1 hX hK _ rfl hi17 dX7_setsRule_17 18 rfl ?_
    refine jj_icmp_ge hX dX7_setsRule_18 45 21 (by decide) rfl (fun c18 => ?_) (fun c18 => ?_)
    · have h := h.1 c18
      refine jt_0 hX hK dX7_setsRule_45 0 rfl dX7_setsRule_46 q1484 49 rfl rfl ?_
      refine jj_sipush hX dX7_setsRule_49 cs_18510 52 rfl ?_
      refine jj_iload_n hX dX7_setsRule_52 1 rfl 53 rfl ?_
      refine jj_iadd hX dX7_setsRule_53 54 rfl ?_
      refine jj_topi (fun v54 e54 => ?_)
      have h := h v54 e54
      refine jj_dup2 hX dX7_setsRule_54 rfl rfl 55 rfl ?_
      obtain ⟨hi55, h⟩ := h
      refine jr_1 hX hK _ rfl hi55 dX7_setsRule_55 56 rfl ?_
      refine jj_iconst hX dX7_setsRule_56 ci_1 57 rfl ?_
      refine jj_iadd hX dX7_setsRule_57 58 rfl ?_
      obtain ⟨hi58, h⟩ := h
      refine jw_1 hX hK hD _ rfl hi58 dX7_setsRule_58 59 rfl (fun u58 e58 => ?_)
      have h := h u58 e58
      refine jt_0 hX hK dX7_setsRule_59 0 rfl dX7_setsRule_60 q1484 63 rfl rfl ?_
      refine jj_sipush hX dX7_setsRule_63 cs_16510 66 rfl ?_
      refine jj_dup2 hX dX7_setsRule_66 rfl rfl 67 rfl ?_
      refine jr_1 hX hK 16510 kc_16510 vi_1_16510 dX7_setsRule_67 68 rfl ?_
      refine jj_iconst hX dX7_setsRule_68 ci_1 69 rfl ?_
      refine jj_iadd hX dX7_setsRule_69 70 rfl ?_
      refine jw_1 hX hK hD 16510 kc_16510 vi_1_16510 dX7_setsRule_70 71 rfl (fun u70 e70 => ?_)
      have h := h u70 e70
      refine jt_0 hX hK dX7_setsRule_71 0 rfl dX7_setsRule_72 q1484 75 rfl rfl ?_
      refine jj_iload_n hX dX7_setsRule_75 2 rfl 76 rfl ?_
      refine jj_bipush hX dX7_setsRule_76 cb_7 78 rfl ?_
      refine jj_iadd hX dX7_setsRule_78 79 rfl ?_
      obtain ⟨hi79, h⟩ := h
      refine jr_1 hX hK _ rfl hi79 dX7_setsRule_79 80 rfl ?_
      exact jj_reti (post := Post) (u := u70) hX dX7_setsRule_80 (Nat.le_refl 0) (Nat.le_refl 0) jm_hB h
    · have h := h.2 c18
      refine jj_aload_n hX dX7_setsRule_21 0 rfl 22 rfl ?_
      refine jt_0 hX hK dX7_setsRule_22 0 rfl dX7_setsRule_23 q1484 26 rfl rfl ?_
      refine jj_iload_n hX dX7_setsRule_26 2 rfl 27 rfl ?_
      refine jj_bipush hX dX7_setsRule_27 cb_7 29 rfl ?_
      refine jj_iadd hX dX7_setsRule_29 30 rfl ?_
      refine jj_iconst hX dX7_setsRule_30 ci_1 31 rfl ?_
      refine jj_iadd hX dX7_setsRule_31 32 rfl ?_
      refine jj_iload_n hX dX7_setsRule_32 3 rfl 33 rfl ?_
      refine jj_iadd hX dX7_setsRule_33 34 rfl ?_
      obtain ⟨hi34, h⟩ := h
      refine jr_1 hX hK _ rfl hi34 dX7_setsRule_34 35 rfl ?_
      refine jj_iload_n hX dX7_setsRule_35 1 rfl 36 rfl ?_
      refine kmw_sets hX hK hD q1784 (Nat.le_of_ble_eq_true rfl) (Nat.le_of_ble_eq_true rfl) (Nat.zero_le _) (Nat.zero_le _) (Nat.le_of_ble_eq_true rfl) dX7_setsRule_36 39 rfl h (fun u36 h => ?_)
      obtain ⟨v39, e39⟩ : ∃ y : Int32, y = x3 + (1 : Int32) := ⟨_, rfl⟩
      have h := h v39 e39
      refine jj_iinc (v := v39) (lv2 := [(0, .ref (ad 0)), (1, .int x1), (2, .int x2), (3, .int v39)]) hX dX7_setsRule_39 3 rfl (by rw [e39, ci_1]) (Nat.le_of_ble_eq_true rfl) [1, 2, 3, 0] rfl 42 rfl ?_
      refine jj_goto hX dX7_setsRule_42 8 (by decide) ?_
      exact ih _ _ h
set_option maxHeartbeats 4000000 in
set_option maxRecDepth 100000 in
theorem mmw_setsRule (l : Launch) (D : va_G) (dA ad : Nat → Nat) (hD : MD ad) (x1 : Int32) (u : MS) (Post : Int32 → MS → Prop) (h : mw_setsRule x1 u Post) : Met l yX7_setsRule (ws_ yX7_setsRule cX7_setsRule 4 (Option.some Jvm.ClassFile.FieldType.int)) (jm_rm 1 22) (jm_Pc D dA ad u [.int x1]) (va_Qi Post (jm_B D dA ad) (AM ad)) 0 0 (AM ad) := by
  refine jm_start [.int x1] [(0, .ref (ad 0)), (1, .int x1)] (by decide) (Nat.le_of_ble_eq_true rfl) rfl (fun X hX hK => ?_)
  unfold mw_setsRule at h
  refine jj_iconst hX dX7_setsRule_0 ci_0 1 rfl ?_
  refine jj_iload_n hX dX7_setsRule_1 1 rfl 2 rfl ?_
  refine kmw_ruleAt hX MW.keeps q1721 (Nat.le_of_ble_eq_true rfl) (Nat.le_of_ble_eq_true rfl) (Nat.zero_le _) (Nat.zero_le _) (Nat.le_of_ble_eq_true rfl) dX7_setsRule_2 5 rfl h (fun r2 h => ?_)
  refine jj_istore_n (lv2 := [(0, .ref (ad 0)), (1, .int x1), (2, .int r2)]) hX dX7_setsRule_5 (Nat.le_of_ble_eq_true rfl) [1, 2, 0] rfl 6 rfl ?_
  refine jj_iconst hX dX7_setsRule_6 ci_0 7 rfl ?_
  refine jj_istore_n (lv2 := [(0, .ref (ad 0)), (1, .int x1), (2, .int r2), (3, .int (0 : Int32))]) hX dX7_setsRule_7 (Nat.le_of_ble_eq_true rfl) [1, 2, 3, 0] rfl 8 rfl ?_
  obtain ⟨n9, h⟩ := h
  exact tmw_setsRule_L8 hX hK hD n9 _ _ h
theorem hd_mw_setsRule : yX7_setsRule.cls = RX7 ∧ yX7_setsRule.cls ≠ "java/lang/invoke/MethodHandle" ∧ yX7_setsRule.cls ≠ "java/lang/invoke/VarHandle" ∧ (parseMethodDescriptor yX7_setsRule.desc).map (fun d => d.parameters.length) = some 1 := by decide +kernel
theorem kmw_setsRule {X : JC} {Q : State → Prop} {nL k n pc : Nat} {lv : List (Nat × Value)} {st : List Value} {own : String} {cc : ByteArray} {ret : Option FieldType} {F LL mc ms ix : Nat} {D : va_G} {dA ad : Nat → Nat} {x1 : Int32} {u : MS} {Post : Int32 → MS → Prop} (hX : JX X own cc nL ret F LL mc ms) (hK : KM D dA (jj_s X)) (hD : MD ad) (hlk : (Cond.methodLink own ix yX7_setsRule) ∈ lw_all) (hF : 1 + 1 ≤ F) (hL : 8 + (4 + 11) + 22 ≤ LL) (hk : k ≤ mc) (hk2 : n ≤ ms) (hw : (st.map fun v => v.category).sum ≤ 8) (d : decode cc pc = .ok (.invokevirtual ix, 3)) (q : Nat) (hq : pc + 3 = q) (h : mw_setsRule x1 u Post) (kk : ∀ (r : Int32) (u2 : MS), Post r u2 → JJ X (AM ad) Q nL (MW D dA ad u2) k n q lv (.int r :: st)) : JJ X (AM ad) Q nL (MW D dA ad u) k n pc lv (.int x1 :: .ref (ad 0) :: st) :=
  jm_calli (na := 1) (As := [.int x1]) hX hK (mmw_setsRule (jj_l X) D dA ad hD x1 u Post h) hlk q1815 qs85 q129 q1816 hd_mw_setsRule rfl rfl hw hF hL hk hk2 d q hq kk
def mw_setsWord_B74 (K3 : Int32 → MS → Prop) (Post : Int32 → MS → Prop) (x1 : Int32) (x2 : Int32) (x3 : Int32) (x4 : Int32) (x5 : Int32) (u : MS) : Prop :=
  mw_setsRule x5 u (fun r86 u86 =>
    ∀ u90 : MS, u90 = jm_s u86 1 16511 ((jm_i u 1 16511) + r86) →
    mw_ruleAt (0 : Int32) x5 (fun r100 =>
      vp_in r100 19800 ∧
      ∀ v105 : Int32, v105 = (x4 + (jm_i u90 1 r100.toNatClampNeg)) →
      K3 v105 u90))
def mw_setsWord_L3_S (Post : Int32 → MS → Prop) (x1 : Int32) (x2 : Int32) (x3 : Int32) (R : Int32 → MS → Prop) (x4 : Int32) (u : MS) : Prop :=
  (x2 ≤ x4 →
    Post (1 : Int32) u) ∧
  (¬ x2 ≤ x4 →
    mw_taking x4 x1 x2 x3 u (fun r15 u15 =>
      (¬ r15 = (-1 : Int32) →
        mw_byteOf x4 u15 (fun r37 u37 =>
          mw_isGreat r37 (fun r40 =>
            (r40 = 0 →
              mw_setsWord_B74 R Post x1 x2 x3 x4 r15 u37) ∧
            (¬ r40 = 0 →
              (¬ (jm_i u37 1 1) = 0 →
                mw_sets (jm_i u37 1 1) (-1 : Int32) u37 (fun u71 =>
                  mw_setsWord_B74 R Post x1 x2 x3 x4 r15 u71)) ∧
              ((jm_i u37 1 1) = 0 →
                mw_isBad (5 : Int32) x4 u37 (fun r59 u59 =>
                  Post r59 u59)))))) ∧
      (r15 = (-1 : Int32) →
        mw_isBad (3 : Int32) x4 u15 (fun r30 u30 =>
          Post r30 u30))))
def mw_setsWord_L3 (Post : Int32 → MS → Prop) (x1 : Int32) (x2 : Int32) (x3 : Int32) : Nat → Int32 → MS → Prop
  | 0 => fun _ _ => False
  | n + 1 => fun x4 u => mw_setsWord_L3_S Post x1 x2 x3 (mw_setsWord_L3 Post x1 x2 x3 n) x4 u
/-- RaisedPressModel.setsWord(III)Z -/
def mw_setsWord (x1 : Int32) (x2 : Int32) (x3 : Int32) (u : MS) (Post : Int32 → MS → Prop) : Prop :=
  ∃ n, mw_setsWord_L3 Post x1 x2 x3 n x1 u
set_option maxHeartbeats 4000000 in
set_option maxRecDepth 100000 in
theorem tmw_setsWord_B74 {X : JC} {D : va_G} {dA ad : Nat → Nat} {K3 : Int32 → MS → Prop} {Post : Int32 → MS → Prop} {x1 : Int32} {x2 : Int32} {x3 : Int32} {x4 : Int32} {x5 : Int32} {u : MS} (hX : JX X yX7_setsWord.cls cX7_setsWord 6 (Option.some Jvm.ClassFile.FieldType.boolean) 4 92 0 0) (hK : KM D dA (jj_s X)) (hD : MD ad) (hK3 : ∀ (y4 : Int32) (u : MS), K3 y4 u → JJ X (AM ad) (jj_Q X (va_Qi (fun r u => Post r u ∧ jj_z r) (jm_B D dA ad) (AM ad)) 0 0 (AM ad)) 6 (MW D dA ad u) 0 0 3 [(0, .ref (ad 0)), (1, .int x1), (2, .int x2), (3, .int x3), (4, .int y4)] []) (h : mw_setsWord_B74 K3 Post x1 x2 x3 x4 x5  u) : JJ X (AM ad) (jj_Q X (va_Qi (fun r u => Post r u ∧ jj_z r) (jm_B D dA ad) (AM ad)) 0 0 (AM ad)) 6 (MW D dA ad u) 0 0 74 [(0, .ref (ad 0)), (1, .int x1), (2, .int x2), (3, .int x3), (4, .int x4), (5, .int x5)] [] := by
  unfold mw_setsWord_B74 at h
  refine jt_0 hX hK dX7_setsWord_74 0 rfl dX7_setsWord_75 q1484 78 rfl rfl ?_
  refine jj_sipush hX dX7_setsWord_78 cs_16511 81 rfl ?_
  refine jj_dup2 hX dX7_setsWord_81 rfl rfl 82 rfl ?_
  refine jr_1 hX hK 16511 kc_16511 vi_1_16511 dX7_setsWord_82 83 rfl ?_
  refine jj_aload_n hX dX7_setsWord_83 0 rfl 84 rfl ?_
  refine jj_iload hX dX7_setsWord_84 5 rfl 86 rfl ?_
  refine kmw_setsRule hX hK hD q1813 (Nat.le_of_ble_eq_true rfl) (Nat.le_of_ble_eq_true rfl) (Nat.zero_le _) (Nat.zero_le _) (Nat.le_of_ble_eq_true rfl) dX7_setsWord_86 89 rfl h (fun r86 u86 h => ?_)
  refine jj_iadd hX dX7_setsWord_89 90 rfl ?_
  refine jw_1 hX hK hD 16511 kc_16511 vi_1_16511 dX7_setsWord_90 91 rfl (fun u90 e90 => ?_)
  have h := h u90 e90
  refine jj_iload hX dX7_setsWord_91 4 rfl 93 rfl ?_
  refine jt_0 hX hK dX7_setsWord_93 0 rfl dX7_setsWord_94 q1484 97 rfl rfl ?_
  refine jj_iconst hX dX7_setsWord_97 ci_0 98 rfl ?_
  refine jj_iload hX dX7_setsWord_98 5 rfl 100 rfl ?_
  refine kmw_ruleAt hX MW.keeps q1721 (Nat.le_of_ble_eq_true rfl) (Nat.le_of_ble_eq_true rfl) (Nat.zero_le _) (Nat.zero_le _) (Nat.le_of_ble_eq_true rfl) dX7_setsWord_100 103 rfl h (fun r100 h => ?_)
  obtain ⟨hi103, h⟩ := h
  refine jr_1 hX hK _ rfl hi103 dX7_setsWord_103 104 rfl ?_
  refine jj_iadd hX dX7_setsWord_104 105 rfl ?_
  refine jj_topi (fun v105 e105 => ?_)
  have h := h v105 e105
  refine jj_istore (lv2 := [(0, .ref (ad 0)), (1, .int x1), (2, .int x2), (3, .int x3), (4, .int v105)]) hX dX7_setsWord_105 (Nat.le_of_ble_eq_true rfl) [1, 2, 3, 4, 0] rfl 107 rfl ?_
  refine jj_goto hX dX7_setsWord_107 3 (by decide) ?_
  exact hK3 _ _ h
set_option maxHeartbeats 4000000 in
set_option maxRecDepth 100000 in
theorem tmw_setsWord_L3 {X : JC} {D : va_G} {dA ad : Nat → Nat} {Post : Int32 → MS → Prop} {x1 : Int32} {x2 : Int32} {x3 : Int32} (hX : JX X yX7_setsWord.cls cX7_setsWord 6 (Option.some Jvm.ClassFile.FieldType.boolean) 4 92 0 0) (hK : KM D dA (jj_s X)) (hD : MD ad) : ∀ (n : Nat) (x4 : Int32) (u : MS), mw_setsWord_L3 Post x1 x2 x3 n x4 u → JJ X (AM ad) (jj_Q X (va_Qi (fun r u => Post r u ∧ jj_z r) (jm_B D dA ad) (AM ad)) 0 0 (AM ad)) 6 (MW D dA ad u) 0 0 3 [(0, .ref (ad 0)), (1, .int x1), (2, .int x2), (3, .int x3), (4, .int x4)] [] := by
  intro n
  induction n with
  | zero =>
    intro x4 u h
    exact h.elim
  | succ n ih =>
    intro x4 u h
    have h : mw_setsWord_L3_S Post x1 x2 x3 (mw_setsWord_L3 Post x1 x2 x3 n) x4 u := h
    unfold mw_setsWord_L3_S at h
    refine jj_iload hX dX7_setsWord_3 4 rfl 5 rfl ?_
    refine jj_iload_n hX dX7_setsWord_5 2 rfl 6 rfl ?_
    refine jj_icmp_ge hX dX7_setsWord_6 110 9 (by decide) rfl (fun c6 => ?_) (fun c6 => ?_)
    · have h := h.1 c6
      refine jj_iconst hX dX7_setsWord_110 ci_1 111 rfl ?_
      exact jj_retz (post := Post) (u := u) hX dX7_setsWord_111 (Nat.le_refl 0) (Nat.le_refl 0) jm_hB jj_z1 h
    · have h := h.2 c6
      refine jj_aload_n hX dX7_setsWord_9 0 rfl 10 rfl ?_
      refine jj_iload hX dX7_setsWord_10 4 rfl 12 rfl ?_
      refine jj_iload_n hX dX7_setsWord_12 1 rfl 13 rfl ?_
      refine jj_iload_n hX dX7_setsWord_13 2 rfl 14 rfl ?_
      refine jj_iload_n hX dX7_setsWord_14 3 rfl 15 rfl ?_
      refine kmw_taking hX hK hD q1796 (Nat.le_of_ble_eq_true rfl) (Nat.le_of_ble_eq_true rfl) (Nat.zero_le _) (Nat.zero_le _) (Nat.le_of_ble_eq_true rfl) dX7_setsWord_15 18 rfl h (fun r15 u15 h => ?_)
      refine jj_istore (lv2 := [(0, .ref (ad 0)), (1, .int x1), (2, .int x2), (3, .int x3), (4, .int x4), (5, .int r15)]) hX dX7_setsWord_18 (Nat.le_of_ble_eq_true rfl) [1, 2, 3, 4, 5, 0] rfl 20 rfl ?_
      refine jj_iload hX dX7_setsWord_20 5 rfl 22 rfl ?_
      refine jj_iconst hX dX7_setsWord_22 ci_m1 23 rfl ?_
      refine jj_icmp_ne hX dX7_setsWord_23 34 26 (by decide) rfl (fun c23 => ?_) (fun c23 => ?_)
      · have h := h.1 c23
        refine jj_aload_n hX dX7_setsWord_34 0 rfl 35 rfl ?_
        refine jj_iload hX dX7_setsWord_35 4 rfl 37 rfl ?_
        refine kmw_byteOf hX hK hD q1764 (Nat.le_of_ble_eq_true rfl) (Nat.le_of_ble_eq_true rfl) (Nat.zero_le _) (Nat.zero_le _) (Nat.le_of_ble_eq_true rfl) dX7_setsWord_37 40 rfl h (fun r37 u37 h => ?_)
        refine kmw_isGreat hX MW.keeps q1774 (Nat.le_of_ble_eq_true rfl) (Nat.le_of_ble_eq_true rfl) (Nat.zero_le _) (Nat.zero_le _) (Nat.le_of_ble_eq_true rfl) dX7_setsWord_40 43 rfl h (fun r40 hb40 h => ?_)
        refine jj_if_eq hX dX7_setsWord_43 74 46 (by decide) rfl (fun c43 => ?_) (fun c43 => ?_)
        · have h := h.1 c43
          exact tmw_setsWord_B74 hX hK hD ih h
        · have h := h.2 c43
          refine jt_0 hX hK dX7_setsWord_46 0 rfl dX7_setsWord_47 q1484 50 rfl rfl ?_
          refine jj_iconst hX dX7_setsWord_50 ci_1 51 rfl ?_
          refine jr_1 hX hK 1 kc_1 vi_1_1 dX7_setsWord_51 52 rfl ?_
          refine jj_if_ne hX dX7_setsWord_52 63 55 (by decide) rfl (fun c52 => ?_) (fun c52 => ?_)
          · have h := h.1 c52
            refine jj_aload_n hX dX7_setsWord_63 0 rfl 64 rfl ?_
            refine jt_0 hX hK dX7_setsWord_64 0 rfl dX7_setsWord_65 q1484 68 rfl rfl ?_
            refine jj_iconst hX dX7_setsWord_68 ci_1 69 rfl ?_
            refine jr_1 hX hK 1 kc_1 vi_1_1 dX7_setsWord_69 70 rfl ?_
            refine jj_iconst hX dX7_setsWord_70 ci_m1 71 rfl ?_
            refine kmw_sets hX hK hD q1784 (Nat.le_of_ble_eq_true rfl) (Nat.le_of_ble_eq_true rfl) (Nat.zero_le _) (Nat.zero_le _) (Nat.le_of_ble_eq_true rfl) dX7_setsWord_71 74 rfl h (fun u71 h => ?_)
            exact tmw_setsWord_B74 hX hK hD ih h
          · have h := h.2 c52
            refine jj_aload_n hX dX7_setsWord_55 0 rfl 56 rfl ?_
            refine jj_iconst hX dX7_setsWord_56 ci_5 57 rfl ?_
            refine jj_iload hX dX7_setsWord_57 4 rfl 59 rfl ?_
            refine kmw_isBad hX hK hD q1780 (Nat.le_of_ble_eq_true rfl) (Nat.le_of_ble_eq_true rfl) (Nat.zero_le _) (Nat.zero_le _) (Nat.le_of_ble_eq_true rfl) dX7_setsWord_59 62 rfl h (fun r59 u59 hb59 h => ?_)
            exact jj_retz (post := Post) (u := u59) hX dX7_setsWord_62 (Nat.le_refl 0) (Nat.le_refl 0) jm_hB hb59 h
      · have h := h.2 c23
        refine jj_aload_n hX dX7_setsWord_26 0 rfl 27 rfl ?_
        refine jj_iconst hX dX7_setsWord_27 ci_3 28 rfl ?_
        refine jj_iload hX dX7_setsWord_28 4 rfl 30 rfl ?_
        refine kmw_isBad hX hK hD q1780 (Nat.le_of_ble_eq_true rfl) (Nat.le_of_ble_eq_true rfl) (Nat.zero_le _) (Nat.zero_le _) (Nat.le_of_ble_eq_true rfl) dX7_setsWord_30 33 rfl h (fun r30 u30 hb30 h => ?_)
        exact jj_retz (post := Post) (u := u30) hX dX7_setsWord_33 (Nat.le_refl 0) (Nat.le_refl 0) jm_hB hb30 h
set_option maxHeartbeats 4000000 in
set_option maxRecDepth 100000 in
theorem mmw_setsWord (l : Launch) (D : va_G) (dA ad : Nat → Nat) (hD : MD ad) (x1 : Int32) (x2 : Int32) (x3 : Int32) (u : MS) (Post : Int32 → MS → Prop) (h : mw_setsWord x1 x2 x3 u Post) : Met l yX7_setsWord (ws_ yX7_setsWord cX7_setsWord 6 (Option.some Jvm.ClassFile.FieldType.boolean)) (jm_rm 4 92) (jm_Pc D dA ad u [.int x1, .int x2, .int x3]) (va_Qi (fun r u => Post r u ∧ jj_z r) (jm_B D dA ad) (AM ad)) 0 0 (AM ad) := by
  refine jm_start [.int x1, .int x2, .int x3] [(0, .ref (ad 0)), (1, .int x1), (2, .int x2), (3, .int x3)] (by decide) (Nat.le_of_ble_eq_true rfl) rfl (fun X hX hK => ?_)
  unfold mw_setsWord at h
  refine jj_iload_n hX dX7_setsWord_0 1 rfl 1 rfl ?_
  refine jj_istore (lv2 := [(0, .ref (ad 0)), (1, .int x1), (2, .int x2), (3, .int x3), (4, .int x1)]) hX dX7_setsWord_1 (Nat.le_of_ble_eq_true rfl) [1, 2, 3, 4, 0] rfl 3 rfl ?_
  obtain ⟨n9, h⟩ := h
  exact tmw_setsWord_L3 hX hK hD n9 _ _ h
theorem hd_mw_setsWord : yX7_setsWord.cls = RX7 ∧ yX7_setsWord.cls ≠ "java/lang/invoke/MethodHandle" ∧ yX7_setsWord.cls ≠ "java/lang/invoke/VarHandle" ∧ (parseMethodDescriptor yX7_setsWord.desc).map (fun d => d.parameters.length) = some 3 := by decide +kernel
theorem kmw_setsWord {X : JC} {Q : State → Prop} {nL k n pc : Nat} {lv : List (Nat × Value)} {st : List Value} {own : String} {cc : ByteArray} {ret : Option FieldType} {F LL mc ms ix : Nat} {D : va_G} {dA ad : Nat → Nat} {x1 : Int32} {x2 : Int32} {x3 : Int32} {u : MS} {Post : Int32 → MS → Prop} (hX : JX X own cc nL ret F LL mc ms) (hK : KM D dA (jj_s X)) (hD : MD ad) (hlk : (Cond.methodLink own ix yX7_setsWord) ∈ lw_all) (hF : 4 + 1 ≤ F) (hL : 8 + (6 + 11) + 92 ≤ LL) (hk : k ≤ mc) (hk2 : n ≤ ms) (hw : (st.map fun v => v.category).sum ≤ 8) (d : decode cc pc = .ok (.invokevirtual ix, 3)) (q : Nat) (hq : pc + 3 = q) (h : mw_setsWord x1 x2 x3 u Post) (kk : ∀ (r : Int32) (u2 : MS), jj_z r → Post r u2 → JJ X (AM ad) Q nL (MW D dA ad u2) k n q lv (.int r :: st)) : JJ X (AM ad) Q nL (MW D dA ad u) k n pc lv (.int x3 :: .int x2 :: .int x1 :: .ref (ad 0) :: st) :=
  jm_callz (na := 3) (As := [.int x1, .int x2, .int x3]) hX hK (mmw_setsWord (jj_l X) D dA ad hD x1 x2 x3 u Post h) hlk q1794 qs82 q129 q1795 hd_mw_setsWord rfl rfl hw hF hL hk hk2 d q hq kk
/-- RaisedPressModel.figureLetter(I)I -/
def mw_figureLetter (x0 : Int32) (Post : Int32 → Prop) : Prop :=
  (¬ x0 = (48 : Int32) →
    Post (x0 - (48 : Int32))) ∧
  (x0 = (48 : Int32) →
    Post (10 : Int32))
set_option maxHeartbeats 4000000 in
set_option maxRecDepth 100000 in
theorem mmw_figureLetter (l : Launch) (x0 : Int32) (Post : Int32 → Prop) (h : mw_figureLetter x0 Post) : Met l yX7_figureLetter (ws_ yX7_figureLetter cX7_figureLetter 1 (Option.some Jvm.ClassFile.FieldType.int)) (jm_rm 0 0) (js_Pc [.int x0]) (va_Qi (fun r (_ : Unit) => Post r) js_B js_A) 0 0 js_A := by
  refine js_start [.int x0] [(0, .int x0)] (by decide) (Nat.le_of_ble_eq_true rfl) rfl (fun X hX => ?_)
  unfold mw_figureLetter at h
  refine jj_iload_n hX dX7_figureLetter_0 0 rfl 1 rfl ?_
  refine jj_bipush hX dX7_figureLetter_1 cb_48 3 rfl ?_
  refine jj_icmp_ne hX dX7_figureLetter_3 11 6 (by decide) rfl (fun c3 => ?_) (fun c3 => ?_)
  · have h := h.1 c3
    refine jj_iload_n hX dX7_figureLetter_11 0 rfl 12 rfl ?_
    refine jj_bipush hX dX7_figureLetter_12 cb_48 14 rfl ?_
    refine jj_isub hX dX7_figureLetter_14 15 rfl ?_
    exact jj_reti (post := (fun r (_ : Unit) => Post r)) (u := ()) hX dX7_figureLetter_15 (Nat.le_refl 0) (Nat.le_refl 0) js_hB h
  · have h := h.2 c3
    refine jj_bipush hX dX7_figureLetter_6 cb_10 8 rfl ?_
    refine jj_goto hX dX7_figureLetter_8 15 (by decide) ?_
    exact jj_reti (post := (fun r (_ : Unit) => Post r)) (u := ()) hX dX7_figureLetter_15 (Nat.le_refl 0) (Nat.le_refl 0) js_hB h
theorem hd_mw_figureLetter : yX7_figureLetter.cls ≠ "java/lang/invoke/MethodHandle" ∧ yX7_figureLetter.cls ≠ "java/lang/invoke/VarHandle" ∧ (parseMethodDescriptor yX7_figureLetter.desc).map (fun d => d.parameters.length) = some 1 := by decide +kernel
theorem kmw_figureLetter {X : JC} {A : Nat → Prop} {Q : State → Prop} {P : Heap → Prop} {nL k n pc : Nat} {lv : List (Nat × Value)} {st : List Value} {own : String} {cc : ByteArray} {ret : Option FieldType} {F LL mc ms ix : Nat} {x0 : Int32} {Post : Int32 → Prop} (hX : JX X own cc nL ret F LL mc ms) (hKP : jj_Keeps P) (hlk : (Cond.methodLink own ix yX7_figureLetter) ∈ lw_all) (hF : 0 + 1 ≤ F) (hL : 8 + (1 + 11) + 0 ≤ LL) (hk : k ≤ mc) (hk2 : n ≤ ms) (hw : (st.map fun v => v.category).sum ≤ 8) (d : decode cc pc = .ok (.invokestatic ix, 3)) (q : Nat) (hq : pc + 3 = q) (h : mw_figureLetter x0 Post) (kk : ∀ r : Int32, Post r → JJ X A Q nL P k n q lv (.int r :: st)) : JJ X A Q nL P k n pc lv (.int x0 :: st) :=
  js_calli (na := 1) (As := [.int x0]) hX hKP (mmw_figureLetter (jj_l X) x0 Post h) hlk q1818 q129 q1819 hd_mw_figureLetter rfl rfl hw hF hL hk hk2 d q hq kk
def mw_justOf_L2_S (Post : Int32 → MS → Prop) (x1 : Int32) (x2 : Int32) (R : Int32 → MS → Prop) (x3 : Int32) (u : MS) : Prop :=
  ((jm_i u 1 0) ≤ x3 →
    Post (-1 : Int32) u) ∧
  (¬ (jm_i u 1 0) ≤ x3 →
    mw_ruleAt (0 : Int32) x3 (fun r14 =>
      mw_isOut x2 x3 (fun r21 =>
        (¬ r21 = 0 →
          ∀ v66 : Int32, v66 = x3 + (1 : Int32) →
          R v66 u) ∧
        (r21 = 0 →
          vp_in r14 19800 ∧
          (¬ (jm_i u 1 r14.toNatClampNeg) = (1 : Int32) →
            ∀ v66 : Int32, v66 = x3 + (1 : Int32) →
            R v66 u) ∧
          ((jm_i u 1 r14.toNatClampNeg) = (1 : Int32) →
            vp_in (r14 + (1 : Int32)) 19800 ∧
            (¬ (jm_i u 1 (r14 + (1 : Int32)).toNatClampNeg) = x1 →
              ∀ v66 : Int32, v66 = x3 + (1 : Int32) →
              R v66 u) ∧
            ((jm_i u 1 (r14 + (1 : Int32)).toNatClampNeg) = x1 →
              vp_in (r14 + (11 : Int32)) 19800 ∧
              (¬ (jm_i u 1 (r14 + (11 : Int32)).toNatClampNeg) = 0 →
                ∀ v66 : Int32, v66 = x3 + (1 : Int32) →
                R v66 u) ∧
              ((jm_i u 1 (r14 + (11 : Int32)).toNatClampNeg) = 0 →
                Post x3 u)))))))
def mw_justOf_L2 (Post : Int32 → MS → Prop) (x1 : Int32) (x2 : Int32) : Nat → Int32 → MS → Prop
  | 0 => fun _ _ => False
  | n + 1 => fun x3 u => mw_justOf_L2_S Post x1 x2 (mw_justOf_L2 Post x1 x2 n) x3 u
/-- RaisedPressModel.justOf(II)I -/
def mw_justOf (x1 : Int32) (x2 : Int32) (u : MS) (Post : Int32 → MS → Prop) : Prop :=
  ∃ n, mw_justOf_L2 Post x1 x2 n (0 : Int32) u
set_option maxHeartbeats 4000000 in
set_option maxRecDepth 100000 in
theorem tmw_justOf_L2 {X : JC} {D : va_G} {dA ad : Nat → Nat} {Post : Int32 → MS → Prop} {x1 : Int32} {x2 : Int32} (hX : JX X yX7_justOf.cls cX7_justOf 5 (Option.some Jvm.ClassFile.FieldType.int) 1 21 0 0) (hK : KM D dA (jj_s X)) (hD : MD ad) : ∀ (n : Nat) (x3 : Int32) (u : MS), mw_justOf_L2 Post x1 x2 n x3 u → JJ X (AM ad) (jj_Q X (va_Qi Post (jm_B D dA ad) (AM ad)) 0 0 (AM ad)) 5 (MW D dA ad u) 0 0 2 [(0, .ref (ad 0)), (1, .int x1), (2, .int x2), (3, .int x3)] [] := by
  intro n
  induction n with
  | zero =>
    intro x3 u h
    exact h.elim
  | succ n ih =>
    intro x3 u h
    have h : mw_justOf_L2_S Post x1 x2 (mw_justOf_L2 Post x1 x2 n) x3 u := h
    unfold mw_justOf_L2_S at h
    refine jj_iload_n hX dX7_justOf_2 3 rfl 3 rfl ?_
    refine jt_0 hX hK dX7_justOf_3 0 rfl dX7_justOf_4 q1484 7 rfl rfl ?_
    refine jj_iconst hX dX7_justOf_7 ci_0 8 rfl ?_
    refine jr_1 hX hK 0 kc_0 vi_1_0 dX7_justOf_8 9 rfl ?_
    refine jj_icmp_ge hX dX7_justOf_9 72 12 (by decide) rfl (fun c9 => ?_) (fun c9 => ?_)
    · have h := h.1 c9
      refine jj_iconst hX dX7_justOf_72 ci_m1 73 rfl ?_
      exact jj_reti (post := Post) (u := u) hX dX7_justOf_73 (Nat.le_refl 0) (Nat.le_refl 0) jm_hB h
    · have h := h.2 c9
      refine jj_iconst hX dX7_justOf_12 ci_0 13 rfl ?_
      refine jj_iload_n hX dX7_justOf_13 3 rfl 14 rfl ?_
      refine kmw_ruleAt hX MW.keeps q1721 (Nat.le_of_ble_eq_true rfl) (Nat.le_of_ble_eq_true rfl) (Nat.zero_le _) (Nat.zero_le _) (Nat.le_of_ble_eq_true rfl) dX7_justOf_14 17 rfl h (fun r14 h => ?_)
      refine jj_istore (lv2 := [(0, .ref (ad 0)), (1, .int x1), (2, .int x2), (3, .int x3), (4, .int r14)]) hX dX7_justOf_17 (Nat.le_of_ble_eq_true rfl) [1, 2, 3, 4, 0] rfl 19 rfl ?_
      refine jj_iload_n hX dX7_justOf_19 2 rfl 20 rfl ?_
      refine jj_iload_n hX dX7_justOf_20 3 rfl 21 rfl ?_
      refine kmw_isOut hX MW.keeps q1800 (Nat.le_of_ble_eq_true rfl) (Nat.le_of_ble_eq_true rfl) (Nat.zero_le _) (Nat.zero_le _) (Nat.le_of_ble_eq_true rfl) dX7_justOf_21 24 rfl h (fun r21 hb21 h => ?_)
      refine jj_if_ne hX dX7_justOf_24 66 27 (by decide) rfl (fun c24 => ?_) (fun c24 => ?_)
      · have h := h.1 c24
        obtain ⟨v66, e66⟩ : ∃ y : Int32, y = x3 + (1 : Int32) := ⟨_, rfl⟩
        have h := h v66 e66
        refine jj_iinc (v := v66) (lv2 := [(0, .ref (ad 0)), (1, .int x1), (2, .int x2), (3, .int v66), (4, .int r14)]) hX dX7_justOf_66 3 rfl (by rw [e66, ci_1]) (Nat.le_of_ble_eq_true rfl) [1, 2, 3, 0, 4] rfl 69 rfl ?_
        refine jj_goto hX dX7_justOf_69 2 (by decide) ?_
        refine jj_sub (lv2 := [(0, .ref (ad 0)), (1, .int x1), (2, .int x2), (3, .int v66)]) [0, 1, 2, 3] rfl ?_
        exact ih _ _ h
      · have h := h.2 c24
        refine jt_0 hX hK dX7_justOf_27 0 rfl dX7_justOf_28 q1484 31 rfl rfl ?_
        refine jj_iload hX dX7_justOf_31 4 rfl 33 rfl ?_
        obtain ⟨hi33, h⟩ := h
        refine jr_1 hX hK _ rfl hi33 dX7_justOf_33 34 rfl ?_
        refine jj_iconst hX dX7_justOf_34 ci_1 35 rfl ?_
        refine jj_icmp_ne hX dX7_justOf_35 66 38 (by decide) rfl (fun c35 => ?_) (fun c35 => ?_)
        · have h := h.1 c35
          obtain ⟨v66, e66⟩ : ∃ y : Int32, y = x3 + (1 : Int32) := ⟨_, rfl⟩
          have h := h v66 e66
          refine jj_iinc (v := v66) (lv2 := [(0, .ref (ad 0)), (1, .int x1), (2, .int x2), (3, .int v66), (4, .int r14)]) hX dX7_justOf_66 3 rfl (by rw [e66, ci_1]) (Nat.le_of_ble_eq_true rfl) [1, 2, 3, 0, 4] rfl 69 rfl ?_
          refine jj_goto hX dX7_justOf_69 2 (by decide) ?_
          refine jj_sub (lv2 := [(0, .ref (ad 0)), (1, .int x1), (2, .int x2), (3, .int v66)]) [0, 1, 2, 3] rfl ?_
          exact ih _ _ h
        · have h := h.2 c35
          refine jt_0 hX hK dX7_justOf_38 0 rfl dX7_justOf_39 q1484 42 rfl rfl ?_
          refine jj_iload hX dX7_justOf_42 4 rfl 44 rfl ?_
          refine jj_iconst hX dX7_justOf_44 ci_1 45 rfl ?_
          refine jj_iadd hX dX7_justOf_45 46 rfl ?_
          obtain ⟨hi46, h⟩ := h
          refine jr_1 hX hK _ rfl hi46 dX7_justOf_46 47 rfl ?_
          refine jj_iload_n hX dX7_justOf_47 1 rfl 48 rfl ?_
          refine jj_icmp_ne hX dX7_justOf_48 66 51 (by decide) rfl (fun c48 => ?_) (fun c48 => ?_)
          · have h := h.1 c48
            obtain ⟨v66, e66⟩ : ∃ y : Int32, y = x3 + (1 : Int32) := ⟨_, rfl⟩
            have h := h v66 e66
            refine jj_iinc (v := v66) (lv2 := [(0, .ref (ad 0)), (1, .int x1), (2, .int x2), (3, .int v66), (4, .int r14)]) hX dX7_justOf_66 3 rfl (by rw [e66, ci_1]) (Nat.le_of_ble_eq_true rfl) [1, 2, 3, 0, 4] rfl 69 rfl ?_
            refine jj_goto hX dX7_justOf_69 2 (by decide) ?_
            refine jj_sub (lv2 := [(0, .ref (ad 0)), (1, .int x1), (2, .int x2), (3, .int v66)]) [0, 1, 2, 3] rfl ?_
            exact ih _ _ h
          · have h := h.2 c48
            refine jt_0 hX hK dX7_justOf_51 0 rfl dX7_justOf_52 q1484 55 rfl rfl ?_
            refine jj_iload hX dX7_justOf_55 4 rfl 57 rfl ?_
            refine jj_bipush hX dX7_justOf_57 cb_11 59 rfl ?_
            refine jj_iadd hX dX7_justOf_59 60 rfl ?_
            obtain ⟨hi60, h⟩ := h
            refine jr_1 hX hK _ rfl hi60 dX7_justOf_60 61 rfl ?_
            refine jj_if_ne hX dX7_justOf_61 66 64 (by decide) rfl (fun c61 => ?_) (fun c61 => ?_)
            · have h := h.1 c61
              obtain ⟨v66, e66⟩ : ∃ y : Int32, y = x3 + (1 : Int32) := ⟨_, rfl⟩
              have h := h v66 e66
              refine jj_iinc (v := v66) (lv2 := [(0, .ref (ad 0)), (1, .int x1), (2, .int x2), (3, .int v66), (4, .int r14)]) hX dX7_justOf_66 3 rfl (by rw [e66, ci_1]) (Nat.le_of_ble_eq_true rfl) [1, 2, 3, 0, 4] rfl 69 rfl ?_
              refine jj_goto hX dX7_justOf_69 2 (by decide) ?_
              refine jj_sub (lv2 := [(0, .ref (ad 0)), (1, .int x1), (2, .int x2), (3, .int v66)]) [0, 1, 2, 3] rfl ?_
              exact ih _ _ h
            · have h := h.2 c61
              refine jj_iload_n hX dX7_justOf_64 3 rfl 65 rfl ?_
              exact jj_reti (post := Post) (u := u) hX dX7_justOf_65 (Nat.le_refl 0) (Nat.le_refl 0) jm_hB h
set_option maxHeartbeats 4000000 in
set_option maxRecDepth 100000 in
theorem mmw_justOf (l : Launch) (D : va_G) (dA ad : Nat → Nat) (hD : MD ad) (x1 : Int32) (x2 : Int32) (u : MS) (Post : Int32 → MS → Prop) (h : mw_justOf x1 x2 u Post) : Met l yX7_justOf (ws_ yX7_justOf cX7_justOf 5 (Option.some Jvm.ClassFile.FieldType.int)) (jm_rm 1 21) (jm_Pc D dA ad u [.int x1, .int x2]) (va_Qi Post (jm_B D dA ad) (AM ad)) 0 0 (AM ad) := by
  refine jm_start [.int x1, .int x2] [(0, .ref (ad 0)), (1, .int x1), (2, .int x2)] (by decide) (Nat.le_of_ble_eq_true rfl) rfl (fun X hX hK => ?_)
  unfold mw_justOf at h
  refine jj_iconst hX dX7_justOf_0 ci_0 1 rfl ?_
  refine jj_istore_n (lv2 := [(0, .ref (ad 0)), (1, .int x1), (2, .int x2), (3, .int (0 : Int32))]) hX dX7_justOf_1 (Nat.le_of_ble_eq_true rfl) [1, 2, 3, 0] rfl 2 rfl ?_
  obtain ⟨n9, h⟩ := h
  exact tmw_justOf_L2 hX hK hD n9 _ _ h
theorem hd_mw_justOf : yX7_justOf.cls = RX7 ∧ yX7_justOf.cls ≠ "java/lang/invoke/MethodHandle" ∧ yX7_justOf.cls ≠ "java/lang/invoke/VarHandle" ∧ (parseMethodDescriptor yX7_justOf.desc).map (fun d => d.parameters.length) = some 2 := by decide +kernel
theorem kmw_justOf {X : JC} {Q : State → Prop} {nL k n pc : Nat} {lv : List (Nat × Value)} {st : List Value} {own : String} {cc : ByteArray} {ret : Option FieldType} {F LL mc ms ix : Nat} {D : va_G} {dA ad : Nat → Nat} {x1 : Int32} {x2 : Int32} {u : MS} {Post : Int32 → MS → Prop} (hX : JX X own cc nL ret F LL mc ms) (hK : KM D dA (jj_s X)) (hD : MD ad) (hlk : (Cond.methodLink own ix yX7_justOf) ∈ lw_all) (hF : 1 + 1 ≤ F) (hL : 8 + (5 + 11) + 21 ≤ LL) (hk : k ≤ mc) (hk2 : n ≤ ms) (hw : (st.map fun v => v.category).sum ≤ 8) (d : decode cc pc = .ok (.invokevirtual ix, 3)) (q : Nat) (hq : pc + 3 = q) (h : mw_justOf x1 x2 u Post) (kk : ∀ (r : Int32) (u2 : MS), Post r u2 → JJ X (AM ad) Q nL (MW D dA ad u2) k n q lv (.int r :: st)) : JJ X (AM ad) Q nL (MW D dA ad u) k n pc lv (.int x2 :: .int x1 :: .ref (ad 0) :: st) :=
  jm_calli (na := 2) (As := [.int x1, .int x2]) hX hK (mmw_justOf (jj_l X) D dA ad hD x1 x2 u Post h) hlk q1822 qs86 q129 q1823 hd_mw_justOf rfl rfl hw hF hL hk hk2 d q hq kk
def mw_setsAll_L245_S (K63 : Int32 → MS → Prop) (Post : Int32 → MS → Prop) (x1 : Int32) (R : Int32 → MS → Prop) (x2 : Int32) (u : MS) : Prop :=
  mw_byteOf x2 u (fun r247 u247 =>
    mw_isDigit0 r247 (fun r250 =>
      (r250 = 0 →
        K63 x2 u247) ∧
      (¬ r250 = 0 →
        mw_byteOf x2 u247 (fun r259 u259 =>
          mw_figureLetter r259 (fun r262 =>
            mw_justOf r262 x1 u259 (fun r266 u266 =>
              (¬ r266 = (-1 : Int32) →
                mw_setsRule r266 u266 (fun r287 u287 =>
                  ∀ v291 : Int32, v291 = x2 + (1 : Int32) →
                  R v291 u287)) ∧
              (r266 = (-1 : Int32) →
                mw_isBad (4 : Int32) x2 u266 (fun r280 u280 =>
                  Post r280 u280))))))))
def mw_setsAll_L245 (K63 : Int32 → MS → Prop) (Post : Int32 → MS → Prop) (x1 : Int32) : Nat → Int32 → MS → Prop
  | 0 => fun _ _ => False
  | n + 1 => fun x2 u => mw_setsAll_L245_S K63 Post x1 (mw_setsAll_L245 K63 Post x1 n) x2 u
def mw_setsAll_B186 (K63 : Int32 → MS → Prop) (Post : Int32 → MS → Prop) (x1 : Int32) (x2 : Int32) (x3 : Int32) (u : MS) : Prop :=
  mw_isLetter x3 (fun r187 =>
    (r187 = 0 →
      (¬ (jm_i u 1 2) = 0 →
        mw_sets (jm_i u 1 2) (-1 : Int32) u (fun u242 =>
          ∃ n, mw_setsAll_L245 K63 Post x1 n x2 u242)) ∧
      ((jm_i u 1 2) = 0 →
        mw_isBad (4 : Int32) x2 u (fun r230 u230 =>
          Post r230 u230))) ∧
    (¬ r187 = 0 →
      mw_wordEnd x2 u (fun r197 u197 =>
        mw_setsWord x2 r197 x1 u197 (fun r201 u201 =>
          (¬ r201 = 0 →
            mw_wordEnd x2 u201 (fun r211 u211 =>
              K63 r211 u211)) ∧
          (r201 = 0 →
            Post (0 : Int32) u201)))))
def mw_setsAll_B149 (K63 : Int32 → MS → Prop) (Post : Int32 → MS → Prop) (x1 : Int32) (x2 : Int32) (x3 : Int32) (u : MS) : Prop :=
  vp_in ((18350 : Int32) + (jm_i u 1 16509)) 19800 ∧
  ∀ u173 : MS, u173 = jm_s u 1 ((18350 : Int32) + (jm_i u 1 16509)).toNatClampNeg (jm_i u 1 16508) →
  ∀ u185 : MS, u185 = jm_s u173 1 16509 ((jm_i u173 1 16509) + (1 : Int32)) →
  mw_setsAll_B186 K63 Post x1 x2 x3 u185
def mw_setsAll_B132 (K63 : Int32 → MS → Prop) (Post : Int32 → MS → Prop) (x1 : Int32) (x2 : Int32) (x3 : Int32) (u : MS) : Prop :=
  ((jm_i u 1 16509) ≤ 0 →
    mw_setsAll_B149 K63 Post x1 x2 x3 u) ∧
  (¬ (jm_i u 1 16509) ≤ 0 →
    mw_sets (0 : Int32) (-1 : Int32) u (fun u146 =>
      mw_setsAll_B149 K63 Post x1 x2 x3 u146))
def mw_setsAll_B115 (K63 : Int32 → MS → Prop) (Post : Int32 → MS → Prop) (x1 : Int32) (x2 : Int32) (x3 : Int32) (u : MS) : Prop :=
  (x2 = 0 →
    mw_setsAll_B132 K63 Post x1 x2 x3 u) ∧
  (¬ x2 = 0 →
    mw_byteOf (x2 - (1 : Int32)) u (fun r123 u123 =>
      mw_isBlank r123 (fun r126 =>
        (r126 = 0 →
          mw_setsAll_B186 K63 Post x1 x2 x3 u123) ∧
        (¬ r126 = 0 →
          mw_setsAll_B132 K63 Post x1 x2 x3 u123))))
def mw_setsAll_L63_S (Post : Int32 → MS → Prop) (x1 : Int32) (R : Int32 → MS → Prop) (x2 : Int32) (u : MS) : Prop :=
  ((jm_i u 1 16507) ≤ x2 →
    Post (1 : Int32) u) ∧
  (¬ (jm_i u 1 16507) ≤ x2 →
    mw_byteOf x2 u (fun r77 u77 =>
      mw_isBlank r77 (fun r82 =>
        (r82 = 0 →
          mw_isLetter r77 (fun r95 =>
            (¬ r95 = 0 →
              mw_setsAll_B115 R Post x1 x2 r77 u77) ∧
            (r95 = 0 →
              mw_isDigit0 r77 (fun r102 =>
                (¬ r102 = 0 →
                  mw_setsAll_B115 R Post x1 x2 r77 u77) ∧
                (r102 = 0 →
                  mw_isBad (1 : Int32) x2 u77 (fun r111 u111 =>
                    Post r111 u111)))))) ∧
        (¬ r82 = 0 →
          ∀ v88 : Int32, v88 = x2 + (1 : Int32) →
          R v88 u77))))
def mw_setsAll_L63 (Post : Int32 → MS → Prop) (x1 : Int32) : Nat → Int32 → MS → Prop
  | 0 => fun _ _ => False
  | n + 1 => fun x2 u => mw_setsAll_L63_S Post x1 (mw_setsAll_L63 Post x1 n) x2 u
def mw_setsAll_L38_S (Post : Int32 → MS → Prop) (x1 : Int32) (R : Int32 → MS → Prop) (x2 : Int32) (u : MS) : Prop :=
  ((24 : Int32) ≤ x2 →
    ∃ n, mw_setsAll_L63 Post x1 n (0 : Int32) u) ∧
  (¬ (24 : Int32) ≤ x2 →
    vp_in ((18510 : Int32) + x2) 19800 ∧
    ∀ u54 : MS, u54 = jm_s u 1 ((18510 : Int32) + x2).toNatClampNeg (0 : Int32) →
    ∀ v55 : Int32, v55 = x2 + (1 : Int32) →
    R v55 u54)
def mw_setsAll_L38 (Post : Int32 → MS → Prop) (x1 : Int32) : Nat → Int32 → MS → Prop
  | 0 => fun _ _ => False
  | n + 1 => fun x2 u => mw_setsAll_L38_S Post x1 (mw_setsAll_L38 Post x1 n) x2 u
/-- RaisedPressModel.setsAll(I)Z -/
def mw_setsAll (x1 : Int32) (u : MS) (Post : Int32 → MS → Prop) : Prop :=
  ∀ u8 : MS, u8 = jm_s u 1 16508 (0 : Int32) →
  ∀ u17 : MS, u17 = jm_s u8 1 16509 (0 : Int32) →
  ∀ u26 : MS, u26 = jm_s u17 1 16510 (0 : Int32) →
  ∀ u35 : MS, u35 = jm_s u26 1 16511 (0 : Int32) →
  ∃ n, mw_setsAll_L38 Post x1 n (0 : Int32) u35
set_option maxHeartbeats 4000000 in
set_option maxRecDepth 100000 in
theorem tmw_setsAll_L245 {X : JC} {D : va_G} {dA ad : Nat → Nat} {K63 : Int32 → MS → Prop} {Post : Int32 → MS → Prop} {x1 : Int32} (hX : JX X yX7_setsAll.cls cX7_setsAll 5 (Option.some Jvm.ClassFile.FieldType.boolean) 5 117 0 0) (hK : KM D dA (jj_s X)) (hD : MD ad) (hK63 : ∀ (y2 : Int32) (u : MS), K63 y2 u → JJ X (AM ad) (jj_Q X (va_Qi (fun r u => Post r u ∧ jj_z r) (jm_B D dA ad) (AM ad)) 0 0 (AM ad)) 5 (MW D dA ad u) 0 0 63 [(0, .ref (ad 0)), (1, .int x1), (2, .int y2)] []) : ∀ (n : Nat) (x2 : Int32) (u : MS), mw_setsAll_L245 K63 Post x1 n x2 u → JJ X (AM ad) (jj_Q X (va_Qi (fun r u => Post r u ∧ jj_z r) (jm_B D dA ad) (AM ad)) 0 0 (AM ad)) 5 (MW D dA ad u) 0 0 245 [(0, .ref (ad 0)), (1, .int x1), (2, .int x2)] [] := by
  intro n
  induction n with
  | zero =>
    intro x2 u h
    exact h.elim
  | succ n ih =>
    intro x2 u h
    have h : mw_setsAll_L245_S K63 Post x1 (mw_setsAll_L245 K63 Post x1 n) x2 u := h
    unfold mw_setsAll_L245_S at h
    refine jj_aload_n hX dX7_setsAll_245 0 rfl 246 rfl ?_
    refine jj_iload_n hX dX7_setsAll_246 2 rfl 247 rfl ?_
    refine kmw_byteOf hX hK hD q1764 (Nat.le_of_ble_eq_true rfl) (Nat.le_of_ble_eq_true rfl) (Nat.zero_le _) (Nat.zero_le _) (Nat.le_of_ble_eq_true rfl) dX7_setsAll_247 250 rfl h (fun r247 u247 h => ?_)
    refine kmw_isDigit0 hX MW.keeps q1777 (Nat.le_of_ble_eq_true rfl) (Nat.le_of_ble_eq_true rfl) (Nat.zero_le _) (Nat.zero_le _) (Nat.le_of_ble_eq_true rfl) dX7_setsAll_250 253 rfl h (fun r250 hb250 h => ?_)
    refine jj_if_eq hX dX7_setsAll_253 297 256 (by decide) rfl (fun c253 => ?_) (fun c253 => ?_)
    · have h := h.1 c253
      refine jj_goto hX dX7_setsAll_297 63 (by decide) ?_
      exact hK63 _ _ h
    · have h := h.2 c253
      refine jj_aload_n hX dX7_setsAll_256 0 rfl 257 rfl ?_
      refine jj_aload_n hX dX7_setsAll_257 0 rfl 258 rfl ?_
      refine jj_iload_n hX dX7_setsAll_258 2 rfl 259 rfl ?_
      refine kmw_byteOf hX hK hD q1764 (Nat.le_of_ble_eq_true rfl) (Nat.le_of_ble_eq_true rfl) (Nat.zero_le _) (Nat.zero_le _) (Nat.le_of_ble_eq_true rfl) dX7_setsAll_259 262 rfl h (fun r259 u259 h => ?_)
      refine kmw_figureLetter hX MW.keeps q1817 (Nat.le_of_ble_eq_true rfl) (Nat.le_of_ble_eq_true rfl) (Nat.zero_le _) (Nat.zero_le _) (Nat.le_of_ble_eq_true rfl) dX7_setsAll_262 265 rfl h (fun r262 h => ?_)
      refine jj_iload_n hX dX7_setsAll_265 1 rfl 266 rfl ?_
      refine kmw_justOf hX hK hD q1820 (Nat.le_of_ble_eq_true rfl) (Nat.le_of_ble_eq_true rfl) (Nat.zero_le _) (Nat.zero_le _) (Nat.le_of_ble_eq_true rfl) dX7_setsAll_266 269 rfl h (fun r266 u266 h => ?_)
      refine jj_istore (lv2 := [(0, .ref (ad 0)), (1, .int x1), (2, .int x2), (4, .int r266)]) hX dX7_setsAll_269 (Nat.le_of_ble_eq_true rfl) [1, 2, 3, 0] rfl 271 rfl ?_
      refine jj_iload hX dX7_setsAll_271 3 rfl 273 rfl ?_
      refine jj_iconst hX dX7_setsAll_273 ci_m1 274 rfl ?_
      refine jj_icmp_ne hX dX7_setsAll_274 284 277 (by decide) rfl (fun c274 => ?_) (fun c274 => ?_)
      · have h := h.1 c274
        refine jj_aload_n hX dX7_setsAll_284 0 rfl 285 rfl ?_
        refine jj_iload hX dX7_setsAll_285 3 rfl 287 rfl ?_
        refine kmw_setsRule hX hK hD q1813 (Nat.le_of_ble_eq_true rfl) (Nat.le_of_ble_eq_true rfl) (Nat.zero_le _) (Nat.zero_le _) (Nat.le_of_ble_eq_true rfl) dX7_setsAll_287 290 rfl h (fun r287 u287 h => ?_)
        refine jj_pop hX dX7_setsAll_290 rfl 291 rfl ?_
        obtain ⟨v291, e291⟩ : ∃ y : Int32, y = x2 + (1 : Int32) := ⟨_, rfl⟩
        have h := h v291 e291
        refine jj_iinc (v := v291) (lv2 := [(0, .ref (ad 0)), (1, .int x1), (2, .int v291), (4, .int r266)]) hX dX7_setsAll_291 2 rfl (by rw [e291, ci_1]) (Nat.le_of_ble_eq_true rfl) [1, 2, 0, 3] rfl 294 rfl ?_
        refine jj_goto hX dX7_setsAll_294 245 (by decide) ?_
        refine jj_sub (lv2 := [(0, .ref (ad 0)), (1, .int x1), (2, .int v291)]) [0, 1, 2] rfl ?_
        exact ih _ _ h
      · have h := h.2 c274
        refine jj_aload_n hX dX7_setsAll_277 0 rfl 278 rfl ?_
        refine jj_iconst hX dX7_setsAll_278 ci_4 279 rfl ?_
        refine jj_iload_n hX dX7_setsAll_279 2 rfl 280 rfl ?_
        refine kmw_isBad hX hK hD q1780 (Nat.le_of_ble_eq_true rfl) (Nat.le_of_ble_eq_true rfl) (Nat.zero_le _) (Nat.zero_le _) (Nat.le_of_ble_eq_true rfl) dX7_setsAll_280 283 rfl h (fun r280 u280 hb280 h => ?_)
        exact jj_retz (post := Post) (u := u280) hX dX7_setsAll_283 (Nat.le_refl 0) (Nat.le_refl 0) jm_hB hb280 h
set_option maxHeartbeats 4000000 in
set_option maxRecDepth 100000 in
theorem tmw_setsAll_B186 {X : JC} {D : va_G} {dA ad : Nat → Nat} {K63 : Int32 → MS → Prop} {Post : Int32 → MS → Prop} {x1 : Int32} {x2 : Int32} {x3 : Int32} {u : MS} (hX : JX X yX7_setsAll.cls cX7_setsAll 5 (Option.some Jvm.ClassFile.FieldType.boolean) 5 117 0 0) (hK : KM D dA (jj_s X)) (hD : MD ad) (hK63 : ∀ (y2 : Int32) (u : MS), K63 y2 u → JJ X (AM ad) (jj_Q X (va_Qi (fun r u => Post r u ∧ jj_z r) (jm_B D dA ad) (AM ad)) 0 0 (AM ad)) 5 (MW D dA ad u) 0 0 63 [(0, .ref (ad 0)), (1, .int x1), (2, .int y2)] []) (h : mw_setsAll_B186 K63 Post x1 x2 x3  u) : JJ X (AM ad) (jj_Q X (va_Qi (fun r u => Post r u ∧ jj_z r) (jm_B D dA ad) (AM ad)) 0 0 (AM ad)) 5 (MW D dA ad u) 0 0 186 [(0, .ref (ad 0)), (1, .int x1), (2, .int x2), (3, .int x3)] [] := by
  unfold mw_setsAll_B186 at h
  refine jj_iload_n hX dX7_setsAll_186 3 rfl 187 rfl ?_
  refine kmw_isLetter hX MW.keeps q1771 (Nat.le_of_ble_eq_true rfl) (Nat.le_of_ble_eq_true rfl) (Nat.zero_le _) (Nat.zero_le _) (Nat.le_of_ble_eq_true rfl) dX7_setsAll_187 190 rfl h (fun r187 hb187 h => ?_)
  refine jj_if_eq hX dX7_setsAll_190 218 193 (by decide) rfl (fun c190 => ?_) (fun c190 => ?_)
  · have h := h.1 c190
    refine jt_0 hX hK dX7_setsAll_218 0 rfl dX7_setsAll_219 q1484 222 rfl rfl ?_
    refine jj_iconst hX dX7_setsAll_222 ci_2 223 rfl ?_
    refine jr_1 hX hK 2 kc_2 vi_1_2 dX7_setsAll_223 224 rfl ?_
    refine jj_if_ne hX dX7_setsAll_224 234 227 (by decide) rfl (fun c224 => ?_) (fun c224 => ?_)
    · have h := h.1 c224
      refine jj_aload_n hX dX7_setsAll_234 0 rfl 235 rfl ?_
      refine jt_0 hX hK dX7_setsAll_235 0 rfl dX7_setsAll_236 q1484 239 rfl rfl ?_
      refine jj_iconst hX dX7_setsAll_239 ci_2 240 rfl ?_
      refine jr_1 hX hK 2 kc_2 vi_1_2 dX7_setsAll_240 241 rfl ?_
      refine jj_iconst hX dX7_setsAll_241 ci_m1 242 rfl ?_
      refine kmw_sets hX hK hD q1784 (Nat.le_of_ble_eq_true rfl) (Nat.le_of_ble_eq_true rfl) (Nat.zero_le _) (Nat.zero_le _) (Nat.le_of_ble_eq_true rfl) dX7_setsAll_242 245 rfl h (fun u242 h => ?_)
      obtain ⟨n9, h⟩ := h
      refine jj_sub (lv2 := [(0, .ref (ad 0)), (1, .int x1), (2, .int x2)]) [0, 1, 2] rfl ?_
      exact tmw_setsAll_L245 hX hK hD hK63 n9 _ _ h
    · have h := h.2 c224
      refine jj_aload_n hX dX7_setsAll_227 0 rfl 228 rfl ?_
      refine jj_iconst hX dX7_setsAll_228 ci_4 229 rfl ?_
      refine jj_iload_n hX dX7_setsAll_229 2 rfl 230 rfl ?_
      refine kmw_isBad hX hK hD q1780 (Nat.le_of_ble_eq_true rfl) (Nat.le_of_ble_eq_true rfl) (Nat.zero_le _) (Nat.zero_le _) (Nat.le_of_ble_eq_true rfl) dX7_setsAll_230 233 rfl h (fun r230 u230 hb230 h => ?_)
      exact jj_retz (post := Post) (u := u230) hX dX7_setsAll_233 (Nat.le_refl 0) (Nat.le_refl 0) jm_hB hb230 h
  · have h := h.2 c190
    refine jj_aload_n hX dX7_setsAll_193 0 rfl 194 rfl ?_
    refine jj_iload_n hX dX7_setsAll_194 2 rfl 195 rfl ?_
    refine jj_aload_n hX dX7_setsAll_195 0 rfl 196 rfl ?_
    refine jj_iload_n hX dX7_setsAll_196 2 rfl 197 rfl ?_
    refine kmw_wordEnd hX hK hD q1788 (Nat.le_of_ble_eq_true rfl) (Nat.le_of_ble_eq_true rfl) (Nat.zero_le _) (Nat.zero_le _) (Nat.le_of_ble_eq_true rfl) dX7_setsAll_197 200 rfl h (fun r197 u197 h => ?_)
    refine jj_iload_n hX dX7_setsAll_200 1 rfl 201 rfl ?_
    refine kmw_setsWord hX hK hD q1792 (Nat.le_of_ble_eq_true rfl) (Nat.le_of_ble_eq_true rfl) (Nat.zero_le _) (Nat.zero_le _) (Nat.le_of_ble_eq_true rfl) dX7_setsAll_201 204 rfl h (fun r201 u201 hb201 h => ?_)
    refine jj_if_ne hX dX7_setsAll_204 209 207 (by decide) rfl (fun c204 => ?_) (fun c204 => ?_)
    · have h := h.1 c204
      refine jj_aload_n hX dX7_setsAll_209 0 rfl 210 rfl ?_
      refine jj_iload_n hX dX7_setsAll_210 2 rfl 211 rfl ?_
      refine kmw_wordEnd hX hK hD q1788 (Nat.le_of_ble_eq_true rfl) (Nat.le_of_ble_eq_true rfl) (Nat.zero_le _) (Nat.zero_le _) (Nat.le_of_ble_eq_true rfl) dX7_setsAll_211 214 rfl h (fun r211 u211 h => ?_)
      refine jj_istore_n (lv2 := [(0, .ref (ad 0)), (1, .int x1), (2, .int r211)]) hX dX7_setsAll_214 (Nat.le_of_ble_eq_true rfl) [1, 2, 0] rfl 215 rfl ?_
      refine jj_goto hX dX7_setsAll_215 63 (by decide) ?_
      exact hK63 _ _ h
    · have h := h.2 c204
      refine jj_iconst hX dX7_setsAll_207 ci_0 208 rfl ?_
      exact jj_retz (post := Post) (u := u201) hX dX7_setsAll_208 (Nat.le_refl 0) (Nat.le_refl 0) jm_hB jj_z0 h
set_option maxHeartbeats 4000000 in
set_option maxRecDepth 100000 in
theorem tmw_setsAll_B149 {X : JC} {D : va_G} {dA ad : Nat → Nat} {K63 : Int32 → MS → Prop} {Post : Int32 → MS → Prop} {x1 : Int32} {x2 : Int32} {x3 : Int32} {u : MS} (hX : JX X yX7_setsAll.cls cX7_setsAll 5 (Option.some Jvm.ClassFile.FieldType.boolean) 5 117 0 0) (hK : KM D dA (jj_s X)) (hD : MD ad) (hK63 : ∀ (y2 : Int32) (u : MS), K63 y2 u → JJ X (AM ad) (jj_Q X (va_Qi (fun r u => Post r u ∧ jj_z r) (jm_B D dA ad) (AM ad)) 0 0 (AM ad)) 5 (MW D dA ad u) 0 0 63 [(0, .ref (ad 0)), (1, .int x1), (2, .int y2)] []) (h : mw_setsAll_B149 K63 Post x1 x2 x3  u) : JJ X (AM ad) (jj_Q X (va_Qi (fun r u => Post r u ∧ jj_z r) (jm_B D dA ad) (AM ad)) 0 0 (AM ad)) 5 (MW D dA ad u) 0 0 149 [(0, .ref (ad 0)), (1, .int x1), (2, .int x2), (3, .int x3)] [] := by
  unfold mw_setsAll_B149 at h
  refine jt_0 hX hK dX7_setsAll_149 0 rfl dX7_setsAll_150 q1484 153 rfl rfl ?_
  refine jj_sipush hX dX7_setsAll_153 cs_18350 156 rfl ?_
  refine jt_0 hX hK dX7_setsAll_156 0 rfl dX7_setsAll_157 q1484 160 rfl rfl ?_
  refine jj_sipush hX dX7_setsAll_160 cs_16509 163 rfl ?_
  refine jr_1 hX hK 16509 kc_16509 vi_1_16509 dX7_setsAll_163 164 rfl ?_
  refine jj_iadd hX dX7_setsAll_164 165 rfl ?_
  refine jt_0 hX hK dX7_setsAll_165 0 rfl dX7_setsAll_166 q1484 169 rfl rfl ?_
  refine jj_sipush hX dX7_setsAll_169 cs_16508 172 rfl ?_
  refine jr_1 hX hK 16508 kc_16508 vi_1_16508 dX7_setsAll_172 173 rfl ?_
  obtain ⟨hi173, h⟩ := h
  refine jw_1 hX hK hD _ rfl hi173 dX7_setsAll_173 174 rfl (fun u173 e173 => ?_)
  have h := h u173 e173
  refine jt_0 hX hK dX7_setsAll_174 0 rfl dX7_setsAll_175 q1484 178 rfl rfl ?_
  refine jj_sipush hX dX7_setsAll_178 cs_16509 181 rfl ?_
  refine jj_dup2 hX dX7_setsAll_181 rfl rfl 182 rfl ?_
  refine jr_1 hX hK 16509 kc_16509 vi_1_16509 dX7_setsAll_182 183 rfl ?_
  refine jj_iconst hX dX7_setsAll_183 ci_1 184 rfl ?_
  refine jj_iadd hX dX7_setsAll_184 185 rfl ?_
  refine jw_1 hX hK hD 16509 kc_16509 vi_1_16509 dX7_setsAll_185 186 rfl (fun u185 e185 => ?_)
  have h := h u185 e185
  exact tmw_setsAll_B186 hX hK hD hK63 h
set_option maxHeartbeats 4000000 in
set_option maxRecDepth 100000 in
theorem tmw_setsAll_B132 {X : JC} {D : va_G} {dA ad : Nat → Nat} {K63 : Int32 → MS → Prop} {Post : Int32 → MS → Prop} {x1 : Int32} {x2 : Int32} {x3 : Int32} {u : MS} (hX : JX X yX7_setsAll.cls cX7_setsAll 5 (Option.some Jvm.ClassFile.FieldType.boolean) 5 117 0 0) (hK : KM D dA (jj_s X)) (hD : MD ad) (hK63 : ∀ (y2 : Int32) (u : MS), K63 y2 u → JJ X (AM ad) (jj_Q X (va_Qi (fun r u => Post r u ∧ jj_z r) (jm_B D dA ad) (AM ad)) 0 0 (AM ad)) 5 (MW D dA ad u) 0 0 63 [(0, .ref (ad 0)), (1, .int x1), (2, .int y2)] []) (h : mw_setsAll_B132 K63 Post x1 x2 x3  u) : JJ X (AM ad) (jj_Q X (va_Qi (fun r u => Post r u ∧ jj_z r) (jm_B D dA ad) (AM ad)) 0 0 (AM ad)) 5 (MW D dA ad u) 0 0 132 [(0, .ref (ad 0)), (1, .int x1), (2, .int x2), (3, .int x3)] [] := by
  unfold mw_setsAll_B132 at h
  refine jt_0 hX hK dX7_setsAll_132 0 rfl dX7_setsAll_133 q1484 136 rfl rfl ?_
  refine jj_sipush hX dX7_setsAll_136 cs_16509 139 rfl ?_
  refine jr_1 hX hK 16509 kc_16509 vi_1_16509 dX7_setsAll_139 140 rfl ?_
  refine jj_if_le hX dX7_setsAll_140 149 143 (by decide) rfl (fun c140 => ?_) (fun c140 => ?_)
  · have h := h.1 c140
    exact tmw_setsAll_B149 hX hK hD hK63 h
  · have h := h.2 c140
    refine jj_aload_n hX dX7_setsAll_143 0 rfl 144 rfl ?_
    refine jj_iconst hX dX7_setsAll_144 ci_0 145 rfl ?_
    refine jj_iconst hX dX7_setsAll_145 ci_m1 146 rfl ?_
    refine kmw_sets hX hK hD q1784 (Nat.le_of_ble_eq_true rfl) (Nat.le_of_ble_eq_true rfl) (Nat.zero_le _) (Nat.zero_le _) (Nat.le_of_ble_eq_true rfl) dX7_setsAll_146 149 rfl h (fun u146 h => ?_)
    exact tmw_setsAll_B149 hX hK hD hK63 h
set_option maxHeartbeats 4000000 in
set_option maxRecDepth 100000 in
theorem tmw_setsAll_B115 {X : JC} {D : va_G} {dA ad : Nat → Nat} {K63 : Int32 → MS → Prop} {Post : Int32 → MS → Prop} {x1 : Int32} {x2 : Int32} {x3 : Int32} {u : MS} (hX : JX X yX7_setsAll.cls cX7_setsAll 5 (Option.some Jvm.ClassFile.FieldType.boolean) 5 117 0 0) (hK : KM D dA (jj_s X)) (hD : MD ad) (hK63 : ∀ (y2 : Int32) (u : MS), K63 y2 u → JJ X (AM ad) (jj_Q X (va_Qi (fun r u => Post r u ∧ jj_z r) (jm_B D dA ad) (AM ad)) 0 0 (AM ad)) 5 (MW D dA ad u) 0 0 63 [(0, .ref (ad 0)), (1, .int x1), (2, .int y2)] []) (h : mw_setsAll_B115 K63 Post x1 x2 x3  u) : JJ X (AM ad) (jj_Q X (va_Qi (fun r u => Post r u ∧ jj_z r) (jm_B D dA ad) (AM ad)) 0 0 (AM ad)) 5 (MW D dA ad u) 0 0 115 [(0, .ref (ad 0)), (1, .int x1), (2, .int x2), (3, .int x3)] [] := by
  unfold mw_setsAll_B115 at h
  refine jj_iload_n hX dX7_setsAll_115 2 rfl 116 rfl ?_
  refine jj_if_eq hX dX7_setsAll_116 132 119 (by decide) rfl (fun c116 => ?_) (fun c116 => ?_)
  · have h := h.1 c116
    exact tmw_setsAll_B132 hX hK hD hK63 h
  · have h := h.2 c116
    refine jj_aload_n hX dX7_setsAll_119 0 rfl 120 rfl ?_
    refine jj_iload_n hX dX7_setsAll_120 2 rfl 121 rfl ?_
    refine jj_iconst hX dX7_setsAll_121 ci_1 122 rfl ?_
    refine jj_isub hX dX7_setsAll_122 123 rfl ?_
    refine kmw_byteOf hX hK hD q1764 (Nat.le_of_ble_eq_true rfl) (Nat.le_of_ble_eq_true rfl) (Nat.zero_le _) (Nat.zero_le _) (Nat.le_of_ble_eq_true rfl) dX7_setsAll_123 126 rfl h (fun r123 u123 h => ?_)
    refine kmw_isBlank hX MW.keeps q1768 (Nat.le_of_ble_eq_true rfl) (Nat.le_of_ble_eq_true rfl) (Nat.zero_le _) (Nat.zero_le _) (Nat.le_of_ble_eq_true rfl) dX7_setsAll_126 129 rfl h (fun r126 hb126 h => ?_)
    refine jj_if_eq hX dX7_setsAll_129 186 132 (by decide) rfl (fun c129 => ?_) (fun c129 => ?_)
    · have h := h.1 c129
      exact tmw_setsAll_B186 hX hK hD hK63 h
    · have h := h.2 c129
      exact tmw_setsAll_B132 hX hK hD hK63 h
set_option maxHeartbeats 4000000 in
set_option maxRecDepth 100000 in
theorem tmw_setsAll_L63 {X : JC} {D : va_G} {dA ad : Nat → Nat} {Post : Int32 → MS → Prop} {x1 : Int32} (hX : JX X yX7_setsAll.cls cX7_setsAll 5 (Option.some Jvm.ClassFile.FieldType.boolean) 5 117 0 0) (hK : KM D dA (jj_s X)) (hD : MD ad) : ∀ (n : Nat) (x2 : Int32) (u : MS), mw_setsAll_L63 Post x1 n x2 u → JJ X (AM ad) (jj_Q X (va_Qi (fun r u => Post r u ∧ jj_z r) (jm_B D dA ad) (AM ad)) 0 0 (AM ad)) 5 (MW D dA ad u) 0 0 63 [(0, .ref (ad 0)), (1, .int x1), (2, .int x2)] [] := by
  intro n
  induction n with
  | zero =>
    intro x2 u h
    exact h.elim
  | succ n ih =>
    intro x2 u h
    have h : mw_setsAll_L63_S Post x1 (mw_setsAll_L63 Post x1 n) x2 u := h
    unfold mw_setsAll_L63_S at h
    refine jj_iload_n hX dX7_setsAll_63 2 rfl 64 rfl ?_
    refine jt_0 hX hK dX7_setsAll_64 0 rfl dX7_setsAll_65 q1484 68 rfl rfl ?_
    refine jj_sipush hX dX7_setsAll_68 cs_16507 71 rfl ?_
    refine jr_1 hX hK 16507 kc_16507 vi_1_16507 dX7_setsAll_71 72 rfl ?_
    refine jj_icmp_ge hX dX7_setsAll_72 300 75 (by decide) rfl (fun c72 => ?_) (fun c72 => ?_)
    · have h := h.1 c72
      refine jj_iconst hX dX7_setsAll_300 ci_1 301 rfl ?_
      exact jj_retz (post := Post) (u := u) hX dX7_setsAll_301 (Nat.le_refl 0) (Nat.le_refl 0) jm_hB jj_z1 h
    · have h := h.2 c72
      refine jj_aload_n hX dX7_setsAll_75 0 rfl 76 rfl ?_
      refine jj_iload_n hX dX7_setsAll_76 2 rfl 77 rfl ?_
      refine kmw_byteOf hX hK hD q1764 (Nat.le_of_ble_eq_true rfl) (Nat.le_of_ble_eq_true rfl) (Nat.zero_le _) (Nat.zero_le _) (Nat.le_of_ble_eq_true rfl) dX7_setsAll_77 80 rfl h (fun r77 u77 h => ?_)
      refine jj_istore_n (lv2 := [(0, .ref (ad 0)), (1, .int x1), (2, .int x2), (3, .int r77)]) hX dX7_setsAll_80 (Nat.le_of_ble_eq_true rfl) [1, 2, 3, 0] rfl 81 rfl ?_
      refine jj_iload_n hX dX7_setsAll_81 3 rfl 82 rfl ?_
      refine kmw_isBlank hX MW.keeps q1768 (Nat.le_of_ble_eq_true rfl) (Nat.le_of_ble_eq_true rfl) (Nat.zero_le _) (Nat.zero_le _) (Nat.le_of_ble_eq_true rfl) dX7_setsAll_82 85 rfl h (fun r82 hb82 h => ?_)
      refine jj_if_eq hX dX7_setsAll_85 94 88 (by decide) rfl (fun c85 => ?_) (fun c85 => ?_)
      · have h := h.1 c85
        refine jj_iload_n hX dX7_setsAll_94 3 rfl 95 rfl ?_
        refine kmw_isLetter hX MW.keeps q1771 (Nat.le_of_ble_eq_true rfl) (Nat.le_of_ble_eq_true rfl) (Nat.zero_le _) (Nat.zero_le _) (Nat.le_of_ble_eq_true rfl) dX7_setsAll_95 98 rfl h (fun r95 hb95 h => ?_)
        refine jj_if_ne hX dX7_setsAll_98 115 101 (by decide) rfl (fun c98 => ?_) (fun c98 => ?_)
        · have h := h.1 c98
          exact tmw_setsAll_B115 hX hK hD ih h
        · have h := h.2 c98
          refine jj_iload_n hX dX7_setsAll_101 3 rfl 102 rfl ?_
          refine kmw_isDigit0 hX MW.keeps q1777 (Nat.le_of_ble_eq_true rfl) (Nat.le_of_ble_eq_true rfl) (Nat.zero_le _) (Nat.zero_le _) (Nat.le_of_ble_eq_true rfl) dX7_setsAll_102 105 rfl h (fun r102 hb102 h => ?_)
          refine jj_if_ne hX dX7_setsAll_105 115 108 (by decide) rfl (fun c105 => ?_) (fun c105 => ?_)
          · have h := h.1 c105
            exact tmw_setsAll_B115 hX hK hD ih h
          · have h := h.2 c105
            refine jj_aload_n hX dX7_setsAll_108 0 rfl 109 rfl ?_
            refine jj_iconst hX dX7_setsAll_109 ci_1 110 rfl ?_
            refine jj_iload_n hX dX7_setsAll_110 2 rfl 111 rfl ?_
            refine kmw_isBad hX hK hD q1780 (Nat.le_of_ble_eq_true rfl) (Nat.le_of_ble_eq_true rfl) (Nat.zero_le _) (Nat.zero_le _) (Nat.le_of_ble_eq_true rfl) dX7_setsAll_111 114 rfl h (fun r111 u111 hb111 h => ?_)
            exact jj_retz (post := Post) (u := u111) hX dX7_setsAll_114 (Nat.le_refl 0) (Nat.le_refl 0) jm_hB hb111 h
      · have h := h.2 c85
        obtain ⟨v88, e88⟩ : ∃ y : Int32, y = x2 + (1 : Int32) := ⟨_, rfl⟩
        have h := h v88 e88
        refine jj_iinc (v := v88) (lv2 := [(0, .ref (ad 0)), (1, .int x1), (2, .int v88), (3, .int r77)]) hX dX7_setsAll_88 2 rfl (by rw [e88, ci_1]) (Nat.le_of_ble_eq_true rfl) [1, 2, 0, 3] rfl 91 rfl ?_
        refine jj_goto hX dX7_setsAll_91 63 (by decide) ?_
        refine jj_sub (lv2 := [(0, .ref (ad 0)), (1, .int x1), (2, .int v88)]) [0, 1, 2] rfl ?_
        exact ih _ _ h
set_option maxHeartbeats 4000000 in
set_option maxRecDepth 100000 in
theorem tmw_setsAll_L38 {X : JC} {D : va_G} {dA ad : Nat → Nat} {Post : Int32 → MS → Prop} {x1 : Int32} (hX : JX X yX7_setsAll.cls cX7_setsAll 5 (Option.some Jvm.ClassFile.FieldType.boolean) 5 117 0 0) (hK : KM D dA (jj_s X)) (hD : MD ad) : ∀ (n : Nat) (x2 : Int32) (u : MS), mw_setsAll_L38 Post x1 n x2 u → JJ X (AM ad) (jj_Q X (va_Qi (fun r u => Post r u ∧ jj_z r) (jm_B D dA ad) (AM ad)) 0 0 (AM ad)) 5 (MW D dA ad u) 0 0 38 [(0, .ref (ad 0)), (1, .int x1), (2, .int x2)] [] := by
  intro n
  induction n with
  | zero =>
    intro x2 u h
    exact h.elim
  | succ n ih =>
    intro x2 u h
    have h : mw_setsAll_L38_S Post x1 (mw_setsAll_L38 Post x1 n) x2 u := h
    unfold mw_setsAll_L38_S at h
    refine jj_iload_n hX dX7_setsAll_38 2 rfl 39 rfl ?_
    refine jj_bipush hX dX7_setsAll_39 cb_24 41 rfl ?_
    refine jj_icmp_ge hX dX7_setsAll_41 61 44 (by decide) rfl (fun c41 => ?_) (fun c41 => ?_)
    · have h := h.1 c41
      refine jj_iconst hX dX7_setsAll_61 ci_0 62 rfl ?_
      refine jj_istore_n (lv2 := [(0, .ref (ad 0)), (1, .int x1), (2, .int (0 : Int32))]) hX dX7_setsAll_62 (Nat.le_of_ble_eq_true rfl) [1, 2, 0] rfl 63 rfl ?_
      obtain ⟨n9, h⟩ := h
      exact tmw_setsAll_L63 hX hK hD n9 _ _ h
    · have h := h.2 c41
      refine jt_0 hX hK dX7_setsAll_44 0 rfl dX7_setsAll_45 q1484 48 rfl rfl ?_
      refine jj_sipush hX dX7_setsAll_48 cs_18510 51 rfl ?_
      refine jj_iload_n hX dX7_setsAll_51 2 rfl 52 rfl ?_
      refine jj_iadd hX dX7_setsAll_52 53 rfl ?_
      refine jj_iconst hX dX7_setsAll_53 ci_0 54 rfl ?_
      obtain ⟨hi54, h⟩ := h
      refine jw_1 hX hK hD _ rfl hi54 dX7_setsAll_54 55 rfl (fun u54 e54 => ?_)
      have h := h u54 e54
      obtain ⟨v55, e55⟩ : ∃ y : Int32, y = x2 + (1 : Int32) := ⟨_, rfl⟩
      have h := h v55 e55
      refine jj_iinc (v := v55) (lv2 := [(0, .ref (ad 0)), (1, .int x1), (2, .int v55)]) hX dX7_setsAll_55 2 rfl (by rw [e55, ci_1]) (Nat.le_of_ble_eq_true rfl) [1, 2, 0] rfl 58 rfl ?_
      refine jj_goto hX dX7_setsAll_58 38 (by decide) ?_
      exact ih _ _ h
set_option maxHeartbeats 4000000 in
set_option maxRecDepth 100000 in
theorem mmw_setsAll (l : Launch) (D : va_G) (dA ad : Nat → Nat) (hD : MD ad) (x1 : Int32) (u : MS) (Post : Int32 → MS → Prop) (h : mw_setsAll x1 u Post) : Met l yX7_setsAll (ws_ yX7_setsAll cX7_setsAll 5 (Option.some Jvm.ClassFile.FieldType.boolean)) (jm_rm 5 117) (jm_Pc D dA ad u [.int x1]) (va_Qi (fun r u => Post r u ∧ jj_z r) (jm_B D dA ad) (AM ad)) 0 0 (AM ad) := by
  refine jm_start [.int x1] [(0, .ref (ad 0)), (1, .int x1)] (by decide) (Nat.le_of_ble_eq_true rfl) rfl (fun X hX hK => ?_)
  unfold mw_setsAll at h
  refine jt_0 hX hK dX7_setsAll_0 0 rfl dX7_setsAll_1 q1484 4 rfl rfl ?_
  refine jj_sipush hX dX7_setsAll_4 cs_16508 7 rfl ?_
  refine jj_iconst hX dX7_setsAll_7 ci_0 8 rfl ?_
  refine jw_1 hX hK hD 16508 kc_16508 vi_1_16508 dX7_setsAll_8 9 rfl (fun u8 e8 => ?_)
  have h := h u8 e8
  refine jt_0 hX hK dX7_setsAll_9 0 rfl dX7_setsAll_10 q1484 13 rfl rfl ?_
  refine jj_sipush hX dX7_setsAll_13 cs_16509 16 rfl ?_
  refine jj_iconst hX dX7_setsAll_16 ci_0 17 rfl ?_
  refine jw_1 hX hK hD 16509 kc_16509 vi_1_16509 dX7_setsAll_17 18 rfl (fun u17 e17 => ?_)
  have h := h u17 e17
  refine jt_0 hX hK dX7_setsAll_18 0 rfl dX7_setsAll_19 q1484 22 rfl rfl ?_
  refine jj_sipush hX dX7_setsAll_22 cs_16510 25 rfl ?_
  refine jj_iconst hX dX7_setsAll_25 ci_0 26 rfl ?_
  refine jw_1 hX hK hD 16510 kc_16510 vi_1_16510 dX7_setsAll_26 27 rfl (fun u26 e26 => ?_)
  have h := h u26 e26
  refine jt_0 hX hK dX7_setsAll_27 0 rfl dX7_setsAll_28 q1484 31 rfl rfl ?_
  refine jj_sipush hX dX7_setsAll_31 cs_16511 34 rfl ?_
  refine jj_iconst hX dX7_setsAll_34 ci_0 35 rfl ?_
  refine jw_1 hX hK hD 16511 kc_16511 vi_1_16511 dX7_setsAll_35 36 rfl (fun u35 e35 => ?_)
  have h := h u35 e35
  refine jj_iconst hX dX7_setsAll_36 ci_0 37 rfl ?_
  refine jj_istore_n (lv2 := [(0, .ref (ad 0)), (1, .int x1), (2, .int (0 : Int32))]) hX dX7_setsAll_37 (Nat.le_of_ble_eq_true rfl) [1, 2, 0] rfl 38 rfl ?_
  obtain ⟨n9, h⟩ := h
  exact tmw_setsAll_L38 hX hK hD n9 _ _ h
theorem hd_mw_setsAll : yX7_setsAll.cls = RX7 ∧ yX7_setsAll.cls ≠ "java/lang/invoke/MethodHandle" ∧ yX7_setsAll.cls ≠ "java/lang/invoke/VarHandle" ∧ (parseMethodDescriptor yX7_setsAll.desc).map (fun d => d.parameters.length) = some 1 := by decide +kernel
theorem kmw_setsAll {X : JC} {Q : State → Prop} {nL k n pc : Nat} {lv : List (Nat × Value)} {st : List Value} {own : String} {cc : ByteArray} {ret : Option FieldType} {F LL mc ms ix : Nat} {D : va_G} {dA ad : Nat → Nat} {x1 : Int32} {u : MS} {Post : Int32 → MS → Prop} (hX : JX X own cc nL ret F LL mc ms) (hK : KM D dA (jj_s X)) (hD : MD ad) (hlk : (Cond.methodLink own ix yX7_setsAll) ∈ lw_all) (hF : 5 + 1 ≤ F) (hL : 8 + (5 + 11) + 117 ≤ LL) (hk : k ≤ mc) (hk2 : n ≤ ms) (hw : (st.map fun v => v.category).sum ≤ 8) (d : decode cc pc = .ok (.invokevirtual ix, 3)) (q : Nat) (hq : pc + 3 = q) (h : mw_setsAll x1 u Post) (kk : ∀ (r : Int32) (u2 : MS), jj_z r → Post r u2 → JJ X (AM ad) Q nL (MW D dA ad u2) k n q lv (.int r :: st)) : JJ X (AM ad) Q nL (MW D dA ad u) k n pc lv (.int x1 :: .ref (ad 0) :: st) :=
  jm_callz (na := 1) (As := [.int x1]) hX hK (mmw_setsAll (jj_l X) D dA ad hD x1 u Post h) hlk q1762 qs77 q129 q1763 hd_mw_setsAll rfl rfl hw hF hL hk hk2 d q hq kk
