set_option linter.unusedVariables false
def mw_oftenOf_L4_S (Post : Int32 → MS → Prop) (x1 : Int32) (R : Int32 → Int32 → MS → Prop) (x2 : Int32) (x3 : Int32) (u : MS) : Prop :=
  ((jm_i u 1 8) ≤ x3 →
    Post x2 u) ∧
  (¬ (jm_i u 1 8) ≤ x3 →
    vp_in ((600 : Int32) + x3) 19800 ∧
    (¬ (jm_i u 1 ((600 : Int32) + x3).toNatClampNeg) = x1 →
      ∀ v36 : Int32, v36 = (x2 + (0 : Int32)) →
      ∀ v37 : Int32, v37 = x3 + (1 : Int32) →
      R v36 v37 u) ∧
    ((jm_i u 1 ((600 : Int32) + x3).toNatClampNeg) = x1 →
      ∀ v36 : Int32, v36 = (x2 + (1 : Int32)) →
      ∀ v37 : Int32, v37 = x3 + (1 : Int32) →
      R v36 v37 u))
def mw_oftenOf_L4 (Post : Int32 → MS → Prop) (x1 : Int32) : Nat → Int32 → Int32 → MS → Prop
  | 0 => fun _ _ _ => False
  | n + 1 => fun x2 x3 u => mw_oftenOf_L4_S Post x1 (mw_oftenOf_L4 Post x1 n) x2 x3 u
/-- RaisedPressModel.oftenOf(I)I -/
def mw_oftenOf (x1 : Int32) (u : MS) (Post : Int32 → MS → Prop) : Prop :=
  ∃ n, mw_oftenOf_L4 Post x1 n (0 : Int32) (0 : Int32) u
set_option maxHeartbeats 4000000 in
set_option maxRecDepth 100000 in
theorem tmw_oftenOf_L4 {X : JC} {D : va_G} {dA ad : Nat → Nat} {Post : Int32 → MS → Prop} {x1 : Int32} (hX : JX X yX7_oftenOf.cls cX7_oftenOf 4 (Option.some Jvm.ClassFile.FieldType.int) 0 0 0 0) (hK : KM D dA (jj_s X)) (hD : MD ad) : ∀ (n : Nat) (x2 : Int32) (x3 : Int32) (u : MS), mw_oftenOf_L4 Post x1 n x2 x3 u → JJ X (AM ad) (jj_Q X (va_Qi Post (jm_B D dA ad) (AM ad)) 0 0 (AM ad)) 4 (MW D dA ad u) 0 0 4 [(0, .ref (ad 0)), (1, .int x1), (2, .int x2), (3, .int x3)] [] := by
  intro n
  induction n with
  | zero =>
    intro x2 x3 u h
    exact h.elim
  | succ n ih =>
    intro x2 x3 u h
    have h : mw_oftenOf_L4_S Post x1 (mw_oftenOf_L4 Post x1 n) x2 x3 u := h
    unfold mw_oftenOf_L4_S at h
    refine jj_iload_n hX dX7_oftenOf_4 3 rfl 5 rfl ?_
    refine jt_0 hX hK dX7_oftenOf_5 0 rfl dX7_oftenOf_6 q1484 9 rfl rfl ?_
    refine jj_bipush hX dX7_oftenOf_9 cb_8 11 rfl ?_
    refine jr_1 hX hK 8 kc_8 vi_1_8 dX7_oftenOf_11 12 rfl ?_
    refine jj_icmp_ge hX dX7_oftenOf_12 43 15 (by decide) rfl (fun c12 => ?_) (fun c12 => ?_)
    · have h := h.1 c12
      refine jj_iload_n hX dX7_oftenOf_43 2 rfl 44 rfl ?_
      exact jj_reti (post := Post) (u := u) hX dX7_oftenOf_44 (Nat.le_refl 0) (Nat.le_refl 0) jm_hB h
    · have h := h.2 c12
      refine jj_iload_n hX dX7_oftenOf_15 2 rfl 16 rfl ?_
      refine jt_0 hX hK dX7_oftenOf_16 0 rfl dX7_oftenOf_17 q1484 20 rfl rfl ?_
      refine jj_sipush hX dX7_oftenOf_20 cs_600 23 rfl ?_
      refine jj_iload_n hX dX7_oftenOf_23 3 rfl 24 rfl ?_
      refine jj_iadd hX dX7_oftenOf_24 25 rfl ?_
      obtain ⟨hi25, h⟩ := h
      refine jr_1 hX hK _ rfl hi25 dX7_oftenOf_25 26 rfl ?_
      refine jj_iload_n hX dX7_oftenOf_26 1 rfl 27 rfl ?_
      refine jj_icmp_ne hX dX7_oftenOf_27 34 30 (by decide) rfl (fun c27 => ?_) (fun c27 => ?_)
      · have h := h.1 c27
        refine jj_iconst hX dX7_oftenOf_34 ci_0 35 rfl ?_
        refine jj_iadd hX dX7_oftenOf_35 36 rfl ?_
        refine jj_topi (fun v36 e36 => ?_)
        have h := h v36 e36
        refine jj_istore_n (lv2 := [(0, .ref (ad 0)), (1, .int x1), (2, .int v36), (3, .int x3)]) hX dX7_oftenOf_36 (Nat.le_of_ble_eq_true rfl) [1, 2, 0, 3] rfl 37 rfl ?_
        obtain ⟨v37, e37⟩ : ∃ y : Int32, y = x3 + (1 : Int32) := ⟨_, rfl⟩
        have h := h v37 e37
        refine jj_iinc (v := v37) (lv2 := [(0, .ref (ad 0)), (1, .int x1), (2, .int v36), (3, .int v37)]) hX dX7_oftenOf_37 3 rfl (by rw [e37, ci_1]) (Nat.le_of_ble_eq_true rfl) [1, 2, 3, 0] rfl 40 rfl ?_
        refine jj_goto hX dX7_oftenOf_40 4 (by decide) ?_
        exact ih _ _ _ h
      · have h := h.2 c27
        refine jj_iconst hX dX7_oftenOf_30 ci_1 31 rfl ?_
        refine jj_goto hX dX7_oftenOf_31 35 (by decide) ?_
        refine jj_iadd hX dX7_oftenOf_35 36 rfl ?_
        refine jj_topi (fun v36 e36 => ?_)
        have h := h v36 e36
        refine jj_istore_n (lv2 := [(0, .ref (ad 0)), (1, .int x1), (2, .int v36), (3, .int x3)]) hX dX7_oftenOf_36 (Nat.le_of_ble_eq_true rfl) [1, 2, 0, 3] rfl 37 rfl ?_
        obtain ⟨v37, e37⟩ : ∃ y : Int32, y = x3 + (1 : Int32) := ⟨_, rfl⟩
        have h := h v37 e37
        refine jj_iinc (v := v37) (lv2 := [(0, .ref (ad 0)), (1, .int x1), (2, .int v36), (3, .int v37)]) hX dX7_oftenOf_37 3 rfl (by rw [e37, ci_1]) (Nat.le_of_ble_eq_true rfl) [1, 2, 3, 0] rfl 40 rfl ?_
        refine jj_goto hX dX7_oftenOf_40 4 (by decide) ?_
        exact ih _ _ _ h
set_option maxHeartbeats 4000000 in
set_option maxRecDepth 100000 in
theorem mmw_oftenOf (l : Launch) (D : va_G) (dA ad : Nat → Nat) (hD : MD ad) (x1 : Int32) (u : MS) (Post : Int32 → MS → Prop) (h : mw_oftenOf x1 u Post) : Met l yX7_oftenOf (ws_ yX7_oftenOf cX7_oftenOf 4 (Option.some Jvm.ClassFile.FieldType.int)) (jm_rm 0 0) (jm_Pc D dA ad u [.int x1]) (va_Qi Post (jm_B D dA ad) (AM ad)) 0 0 (AM ad) := by
  refine jm_start [.int x1] [(0, .ref (ad 0)), (1, .int x1)] (by decide) (Nat.le_of_ble_eq_true rfl) rfl (fun X hX hK => ?_)
  unfold mw_oftenOf at h
  refine jj_iconst hX dX7_oftenOf_0 ci_0 1 rfl ?_
  refine jj_istore_n (lv2 := [(0, .ref (ad 0)), (1, .int x1), (2, .int (0 : Int32))]) hX dX7_oftenOf_1 (Nat.le_of_ble_eq_true rfl) [1, 2, 0] rfl 2 rfl ?_
  refine jj_iconst hX dX7_oftenOf_2 ci_0 3 rfl ?_
  refine jj_istore_n (lv2 := [(0, .ref (ad 0)), (1, .int x1), (2, .int (0 : Int32)), (3, .int (0 : Int32))]) hX dX7_oftenOf_3 (Nat.le_of_ble_eq_true rfl) [1, 2, 3, 0] rfl 4 rfl ?_
  obtain ⟨n9, h⟩ := h
  exact tmw_oftenOf_L4 hX hK hD n9 _ _ _ h
theorem hd_mw_oftenOf : yX7_oftenOf.cls = RX7 ∧ yX7_oftenOf.cls ≠ "java/lang/invoke/MethodHandle" ∧ yX7_oftenOf.cls ≠ "java/lang/invoke/VarHandle" ∧ (parseMethodDescriptor yX7_oftenOf.desc).map (fun d => d.parameters.length) = some 1 := by decide +kernel
theorem kmw_oftenOf {X : JC} {Q : State → Prop} {nL k n pc : Nat} {lv : List (Nat × Value)} {st : List Value} {own : String} {cc : ByteArray} {ret : Option FieldType} {F LL mc ms ix : Nat} {D : va_G} {dA ad : Nat → Nat} {x1 : Int32} {u : MS} {Post : Int32 → MS → Prop} (hX : JX X own cc nL ret F LL mc ms) (hK : KM D dA (jj_s X)) (hD : MD ad) (hlk : (Cond.methodLink own ix yX7_oftenOf) ∈ lw_all) (hF : 0 + 1 ≤ F) (hL : 8 + (4 + 11) + 0 ≤ LL) (hk : k ≤ mc) (hk2 : n ≤ ms) (hw : (st.map fun v => v.category).sum ≤ 8) (d : decode cc pc = .ok (.invokevirtual ix, 3)) (q : Nat) (hq : pc + 3 = q) (h : mw_oftenOf x1 u Post) (kk : ∀ (r : Int32) (u2 : MS), Post r u2 → JJ X (AM ad) Q nL (MW D dA ad u2) k n q lv (.int r :: st)) : JJ X (AM ad) Q nL (MW D dA ad u) k n pc lv (.int x1 :: .ref (ad 0) :: st) :=
  jm_calli (na := 1) (As := [.int x1]) hX hK (mmw_oftenOf (jj_l X) D dA ad hD x1 u Post h) hlk q1971 qs98 q129 q1972 hd_mw_oftenOf rfl rfl hw hF hL hk hk2 d q hq kk
/-- RaisedPressModel.often(I)I -/
def mw_often (x1 : Int32) (u : MS) (Post : Int32 → MS → Prop) : Prop :=
  mw_isFrom x1.toInt64 (0 : Int64) (63 : Int64) (fun r6 =>
    (¬ r6 = 0 →
      mw_isSet u (fun r21 u21 =>
        (r21 = 0 →
          mw_refuse (6 : Int32) u21 (fun r42 u42 =>
            Post r42 u42)) ∧
        (¬ r21 = 0 →
          mw_oftenOf x1 u21 (fun r30 u30 =>
            mw_gives r30 u30 (fun r33 u33 =>
              Post r33 u33))))) ∧
    (r6 = 0 →
      mw_refuse (1 : Int32) u (fun r14 u14 =>
        Post r14 u14)))
set_option maxHeartbeats 4000000 in
set_option maxRecDepth 100000 in
theorem mmw_often (l : Launch) (D : va_G) (dA ad : Nat → Nat) (hD : MD ad) (x1 : Int32) (u : MS) (Post : Int32 → MS → Prop) (h : mw_often x1 u Post) : Met l yX7_often (ws_ yX7_often cX7_often 2 (Option.some Jvm.ClassFile.FieldType.int)) (jm_rm 1 25) (jm_Pc D dA ad u [.int x1]) (va_Qi Post (jm_B D dA ad) (AM ad)) 0 0 (AM ad) := by
  refine jm_start [.int x1] [(0, .ref (ad 0)), (1, .int x1)] (by decide) (Nat.le_of_ble_eq_true rfl) rfl (fun X hX hK => ?_)
  unfold mw_often at h
  refine jj_iload_n hX dX7_often_0 1 rfl 1 rfl ?_
  refine jj_i2l hX dX7_often_1 2 rfl ?_
  refine jj_lconst (v := 0) hX dX7_often_2 (by decide) 3 rfl ?_
  refine jj_ldc2 (v := 63) hX dX7_often_3 q1968 6 rfl ?_
  refine kmw_isFrom hX MW.keeps q1944 (Nat.le_of_ble_eq_true rfl) (Nat.le_of_ble_eq_true rfl) (Nat.zero_le _) (Nat.zero_le _) (Nat.le_of_ble_eq_true rfl) dX7_often_6 9 rfl h (fun r6 hb6 h => ?_)
  refine jj_if_ne hX dX7_often_9 20 12 (by decide) rfl (fun c9 => ?_) (fun c9 => ?_)
  · have h := h.1 c9
    refine jj_aload_n hX dX7_often_20 0 rfl 21 rfl ?_
    refine kmw_isSet hX hK hD q1864 (Nat.le_of_ble_eq_true rfl) (Nat.le_of_ble_eq_true rfl) (Nat.zero_le _) (Nat.zero_le _) (Nat.le_of_ble_eq_true rfl) dX7_often_21 24 rfl h (fun r21 u21 hb21 h => ?_)
    refine jj_if_eq hX dX7_often_24 39 27 (by decide) rfl (fun c24 => ?_) (fun c24 => ?_)
    · have h := h.1 c24
      refine jj_aload_n hX dX7_often_39 0 rfl 40 rfl ?_
      refine jj_bipush hX dX7_often_40 cb_6 42 rfl ?_
      refine kmw_refuse hX hK hD q1702 (Nat.le_of_ble_eq_true rfl) (Nat.le_of_ble_eq_true rfl) (Nat.zero_le _) (Nat.zero_le _) (Nat.le_of_ble_eq_true rfl) dX7_often_42 45 rfl h (fun r42 u42 h => ?_)
      exact jj_reti (post := Post) (u := u42) hX dX7_often_45 (Nat.le_refl 0) (Nat.le_refl 0) jm_hB h
    · have h := h.2 c24
      refine jj_aload_n hX dX7_often_27 0 rfl 28 rfl ?_
      refine jj_aload_n hX dX7_often_28 0 rfl 29 rfl ?_
      refine jj_iload_n hX dX7_often_29 1 rfl 30 rfl ?_
      refine kmw_oftenOf hX hK hD q1969 (Nat.le_of_ble_eq_true rfl) (Nat.le_of_ble_eq_true rfl) (Nat.zero_le _) (Nat.zero_le _) (Nat.le_of_ble_eq_true rfl) dX7_often_30 33 rfl h (fun r30 u30 h => ?_)
      refine kmw_gives hX hK hD q1752 (Nat.le_of_ble_eq_true rfl) (Nat.le_of_ble_eq_true rfl) (Nat.zero_le _) (Nat.zero_le _) (Nat.le_of_ble_eq_true rfl) dX7_often_33 36 rfl h (fun r33 u33 h => ?_)
      refine jj_goto hX dX7_often_36 45 (by decide) ?_
      exact jj_reti (post := Post) (u := u33) hX dX7_often_45 (Nat.le_refl 0) (Nat.le_refl 0) jm_hB h
  · have h := h.2 c9
    refine jj_aload_n hX dX7_often_12 0 rfl 13 rfl ?_
    refine jj_iconst hX dX7_often_13 ci_1 14 rfl ?_
    refine kmw_refuse hX hK hD q1702 (Nat.le_of_ble_eq_true rfl) (Nat.le_of_ble_eq_true rfl) (Nat.zero_le _) (Nat.zero_le _) (Nat.le_of_ble_eq_true rfl) dX7_often_14 17 rfl h (fun r14 u14 h => ?_)
    refine jj_goto hX dX7_often_17 45 (by decide) ?_
    exact jj_reti (post := Post) (u := u14) hX dX7_often_45 (Nat.le_refl 0) (Nat.le_refl 0) jm_hB h
theorem hd_mw_often : yX7_often.cls = RX7 ∧ yX7_often.cls ≠ "java/lang/invoke/MethodHandle" ∧ yX7_often.cls ≠ "java/lang/invoke/VarHandle" ∧ (parseMethodDescriptor yX7_often.desc).map (fun d => d.parameters.length) = some 1 := by decide +kernel
theorem kmw_often {X : JC} {Q : State → Prop} {nL k n pc : Nat} {lv : List (Nat × Value)} {st : List Value} {own : String} {cc : ByteArray} {ret : Option FieldType} {F LL mc ms ix : Nat} {D : va_G} {dA ad : Nat → Nat} {x1 : Int32} {u : MS} {Post : Int32 → MS → Prop} (hX : JX X own cc nL ret F LL mc ms) (hK : KM D dA (jj_s X)) (hD : MD ad) (hlk : (Cond.methodLink own ix yX7_often) ∈ lw_all) (hF : 1 + 1 ≤ F) (hL : 8 + (2 + 11) + 25 ≤ LL) (hk : k ≤ mc) (hk2 : n ≤ ms) (hw : (st.map fun v => v.category).sum ≤ 8) (d : decode cc pc = .ok (.invokevirtual ix, 3)) (q : Nat) (hq : pc + 3 = q) (h : mw_often x1 u Post) (kk : ∀ (r : Int32) (u2 : MS), Post r u2 → JJ X (AM ad) Q nL (MW D dA ad u2) k n q lv (.int r :: st)) : JJ X (AM ad) Q nL (MW D dA ad u) k n pc lv (.int x1 :: .ref (ad 0) :: st) :=
  jm_calli (na := 1) (As := [.int x1]) hX hK (mmw_often (jj_l X) D dA ad hD x1 u Post h) hlk q1965 q1966 q129 q1967 hd_mw_often rfl rfl hw hF hL hk hk2 d q hq kk
def mw_commonest_L20_S (Post : Int32 → MS → Prop) (R : Int32 → Int32 → Int32 → MS → Prop) (x1 : Int32) (x2 : Int32) (x3 : Int32) (u : MS) : Prop :=
  ((63 : Int32) < x3 →
    (¬ x1 = 0 →
      mw_gives x1 u (fun r67 u67 =>
        Post r67 u67)) ∧
    (x1 = 0 →
      mw_refuse (6 : Int32) u (fun r59 u59 =>
        Post r59 u59))) ∧
  (¬ (63 : Int32) < x3 →
    mw_oftenOf x3 u (fun r28 u28 =>
      (x2 < r28 →
        mw_oftenOf x3 u28 (fun r40 u40 =>
          ∀ v46 : Int32, v46 = x3 + (1 : Int32) →
          R x3 r40 v46 u40)) ∧
      (¬ x2 < r28 →
        ∀ v46 : Int32, v46 = x3 + (1 : Int32) →
        R x1 x2 v46 u28)))
def mw_commonest_L20 (Post : Int32 → MS → Prop) : Nat → Int32 → Int32 → Int32 → MS → Prop
  | 0 => fun _ _ _ _ => False
  | n + 1 => fun x1 x2 x3 u => mw_commonest_L20_S Post (mw_commonest_L20 Post n) x1 x2 x3 u
/-- RaisedPressModel.commonest()I -/
def mw_commonest (u : MS) (Post : Int32 → MS → Prop) : Prop :=
  mw_isSet u (fun r1 u1 =>
    (¬ r1 = 0 →
      ∃ n, mw_commonest_L20 Post n (0 : Int32) (0 : Int32) (1 : Int32) u1) ∧
    (r1 = 0 →
      mw_refuse (6 : Int32) u1 (fun r10 u10 =>
        Post r10 u10)))
set_option maxHeartbeats 4000000 in
set_option maxRecDepth 100000 in
theorem tmw_commonest_L20 {X : JC} {D : va_G} {dA ad : Nat → Nat} {Post : Int32 → MS → Prop} (hX : JX X yX7_commonest.cls cX7_commonest 4 (Option.some Jvm.ClassFile.FieldType.int) 1 23 0 0) (hK : KM D dA (jj_s X)) (hD : MD ad) : ∀ (n : Nat) (x1 : Int32) (x2 : Int32) (x3 : Int32) (u : MS), mw_commonest_L20 Post n x1 x2 x3 u → JJ X (AM ad) (jj_Q X (va_Qi Post (jm_B D dA ad) (AM ad)) 0 0 (AM ad)) 4 (MW D dA ad u) 0 0 20 [(0, .ref (ad 0)), (1, .int x1), (2, .int x2), (3, .int x3)] [] := by
  intro n
  induction n with
  | zero =>
    intro x1 x2 x3 u h
    exact h.elim
  | succ n ih =>
    intro x1 x2 x3 u h
    have h : mw_commonest_L20_S Post (mw_commonest_L20 Post n) x1 x2 x3 u := h
    unfold mw_commonest_L20_S at h
    refine jj_iload_n hX dX7_commonest_20 3 rfl 21 rfl ?_
    refine jj_bipush hX dX7_commonest_21 cb_63 23 rfl ?_
    refine jj_icmp_gt hX dX7_commonest_23 52 26 (by decide) rfl (fun c23 => ?_) (fun c23 => ?_)
    · have h := h.1 c23
      refine jj_iload_n hX dX7_commonest_52 1 rfl 53 rfl ?_
      refine jj_if_ne hX dX7_commonest_53 65 56 (by decide) rfl (fun c53 => ?_) (fun c53 => ?_)
      · have h := h.1 c53
        refine jj_aload_n hX dX7_commonest_65 0 rfl 66 rfl ?_
        refine jj_iload_n hX dX7_commonest_66 1 rfl 67 rfl ?_
        refine kmw_gives hX hK hD q1752 (Nat.le_of_ble_eq_true rfl) (Nat.le_of_ble_eq_true rfl) (Nat.zero_le _) (Nat.zero_le _) (Nat.le_of_ble_eq_true rfl) dX7_commonest_67 70 rfl h (fun r67 u67 h => ?_)
        exact jj_reti (post := Post) (u := u67) hX dX7_commonest_70 (Nat.le_refl 0) (Nat.le_refl 0) jm_hB h
      · have h := h.2 c53
        refine jj_aload_n hX dX7_commonest_56 0 rfl 57 rfl ?_
        refine jj_bipush hX dX7_commonest_57 cb_6 59 rfl ?_
        refine kmw_refuse hX hK hD q1702 (Nat.le_of_ble_eq_true rfl) (Nat.le_of_ble_eq_true rfl) (Nat.zero_le _) (Nat.zero_le _) (Nat.le_of_ble_eq_true rfl) dX7_commonest_59 62 rfl h (fun r59 u59 h => ?_)
        refine jj_goto hX dX7_commonest_62 70 (by decide) ?_
        exact jj_reti (post := Post) (u := u59) hX dX7_commonest_70 (Nat.le_refl 0) (Nat.le_refl 0) jm_hB h
    · have h := h.2 c23
      refine jj_aload_n hX dX7_commonest_26 0 rfl 27 rfl ?_
      refine jj_iload_n hX dX7_commonest_27 3 rfl 28 rfl ?_
      refine kmw_oftenOf hX hK hD q1969 (Nat.le_of_ble_eq_true rfl) (Nat.le_of_ble_eq_true rfl) (Nat.zero_le _) (Nat.zero_le _) (Nat.le_of_ble_eq_true rfl) dX7_commonest_28 31 rfl h (fun r28 u28 h => ?_)
      refine jj_iload_n hX dX7_commonest_31 2 rfl 32 rfl ?_
      refine jj_icmp_gt hX dX7_commonest_32 38 35 (by decide) rfl (fun c32 => ?_) (fun c32 => ?_)
      · have h := h.1 c32
        refine jj_aload_n hX dX7_commonest_38 0 rfl 39 rfl ?_
        refine jj_iload_n hX dX7_commonest_39 3 rfl 40 rfl ?_
        refine kmw_oftenOf hX hK hD q1969 (Nat.le_of_ble_eq_true rfl) (Nat.le_of_ble_eq_true rfl) (Nat.zero_le _) (Nat.zero_le _) (Nat.le_of_ble_eq_true rfl) dX7_commonest_40 43 rfl h (fun r40 u40 h => ?_)
        refine jj_istore_n (lv2 := [(0, .ref (ad 0)), (2, .int r40), (3, .int x3)]) hX dX7_commonest_43 (Nat.le_of_ble_eq_true rfl) [1, 0, 3] rfl 44 rfl ?_
        refine jj_iload_n hX dX7_commonest_44 2 rfl 45 rfl ?_
        refine jj_istore_n (lv2 := [(0, .ref (ad 0)), (1, .int x3), (2, .int r40), (3, .int x3)]) hX dX7_commonest_45 (Nat.le_of_ble_eq_true rfl) [1, 0, 2, 3] rfl 46 rfl ?_
        obtain ⟨v46, e46⟩ : ∃ y : Int32, y = x3 + (1 : Int32) := ⟨_, rfl⟩
        have h := h v46 e46
        refine jj_iinc (v := v46) (lv2 := [(0, .ref (ad 0)), (1, .int x3), (2, .int r40), (3, .int v46)]) hX dX7_commonest_46 3 rfl (by rw [e46, ci_1]) (Nat.le_of_ble_eq_true rfl) [1, 2, 3, 0] rfl 49 rfl ?_
        refine jj_goto hX dX7_commonest_49 20 (by decide) ?_
        exact ih _ _ _ _ h
      · have h := h.2 c32
        refine jj_goto hX dX7_commonest_35 46 (by decide) ?_
        obtain ⟨v46, e46⟩ : ∃ y : Int32, y = x3 + (1 : Int32) := ⟨_, rfl⟩
        have h := h v46 e46
        refine jj_iinc (v := v46) (lv2 := [(0, .ref (ad 0)), (1, .int x1), (2, .int x2), (3, .int v46)]) hX dX7_commonest_46 3 rfl (by rw [e46, ci_1]) (Nat.le_of_ble_eq_true rfl) [1, 2, 3, 0] rfl 49 rfl ?_
        refine jj_goto hX dX7_commonest_49 20 (by decide) ?_
        exact ih _ _ _ _ h
set_option maxHeartbeats 4000000 in
set_option maxRecDepth 100000 in
theorem mmw_commonest (l : Launch) (D : va_G) (dA ad : Nat → Nat) (hD : MD ad) (u : MS) (Post : Int32 → MS → Prop) (h : mw_commonest  u Post) : Met l yX7_commonest (ws_ yX7_commonest cX7_commonest 4 (Option.some Jvm.ClassFile.FieldType.int)) (jm_rm 1 23) (jm_Pc D dA ad u []) (va_Qi Post (jm_B D dA ad) (AM ad)) 0 0 (AM ad) := by
  refine jm_start [] [(0, .ref (ad 0))] (by decide) (Nat.le_of_ble_eq_true rfl) rfl (fun X hX hK => ?_)
  unfold mw_commonest at h
  refine jj_aload_n hX dX7_commonest_0 0 rfl 1 rfl ?_
  refine kmw_isSet hX hK hD q1864 (Nat.le_of_ble_eq_true rfl) (Nat.le_of_ble_eq_true rfl) (Nat.zero_le _) (Nat.zero_le _) (Nat.le_of_ble_eq_true rfl) dX7_commonest_1 4 rfl h (fun r1 u1 hb1 h => ?_)
  refine jj_if_ne hX dX7_commonest_4 14 7 (by decide) rfl (fun c4 => ?_) (fun c4 => ?_)
  · have h := h.1 c4
    refine jj_iconst hX dX7_commonest_14 ci_0 15 rfl ?_
    refine jj_istore_n (lv2 := [(0, .ref (ad 0)), (1, .int (0 : Int32))]) hX dX7_commonest_15 (Nat.le_of_ble_eq_true rfl) [1, 0] rfl 16 rfl ?_
    refine jj_iconst hX dX7_commonest_16 ci_0 17 rfl ?_
    refine jj_istore_n (lv2 := [(0, .ref (ad 0)), (1, .int (0 : Int32)), (2, .int (0 : Int32))]) hX dX7_commonest_17 (Nat.le_of_ble_eq_true rfl) [1, 2, 0] rfl 18 rfl ?_
    refine jj_iconst hX dX7_commonest_18 ci_1 19 rfl ?_
    refine jj_istore_n (lv2 := [(0, .ref (ad 0)), (1, .int (0 : Int32)), (2, .int (0 : Int32)), (3, .int (1 : Int32))]) hX dX7_commonest_19 (Nat.le_of_ble_eq_true rfl) [1, 2, 3, 0] rfl 20 rfl ?_
    obtain ⟨n9, h⟩ := h
    exact tmw_commonest_L20 hX hK hD n9 _ _ _ _ h
  · have h := h.2 c4
    refine jj_aload_n hX dX7_commonest_7 0 rfl 8 rfl ?_
    refine jj_bipush hX dX7_commonest_8 cb_6 10 rfl ?_
    refine kmw_refuse hX hK hD q1702 (Nat.le_of_ble_eq_true rfl) (Nat.le_of_ble_eq_true rfl) (Nat.zero_le _) (Nat.zero_le _) (Nat.le_of_ble_eq_true rfl) dX7_commonest_10 13 rfl h (fun r10 u10 h => ?_)
    exact jj_reti (post := Post) (u := u10) hX dX7_commonest_13 (Nat.le_refl 0) (Nat.le_refl 0) jm_hB h
theorem hd_mw_commonest : yX7_commonest.cls = RX7 ∧ yX7_commonest.cls ≠ "java/lang/invoke/MethodHandle" ∧ yX7_commonest.cls ≠ "java/lang/invoke/VarHandle" ∧ (parseMethodDescriptor yX7_commonest.desc).map (fun d => d.parameters.length) = some 0 := by decide +kernel
theorem kmw_commonest {X : JC} {Q : State → Prop} {nL k n pc : Nat} {lv : List (Nat × Value)} {st : List Value} {own : String} {cc : ByteArray} {ret : Option FieldType} {F LL mc ms ix : Nat} {D : va_G} {dA ad : Nat → Nat} {u : MS} {Post : Int32 → MS → Prop} (hX : JX X own cc nL ret F LL mc ms) (hK : KM D dA (jj_s X)) (hD : MD ad) (hlk : (Cond.methodLink own ix yX7_commonest) ∈ lw_all) (hF : 1 + 1 ≤ F) (hL : 8 + (4 + 11) + 23 ≤ LL) (hk : k ≤ mc) (hk2 : n ≤ ms) (hw : (st.map fun v => v.category).sum ≤ 8) (d : decode cc pc = .ok (.invokevirtual ix, 3)) (q : Nat) (hq : pc + 3 = q) (h : mw_commonest  u Post) (kk : ∀ (r : Int32) (u2 : MS), Post r u2 → JJ X (AM ad) Q nL (MW D dA ad u2) k n q lv (.int r :: st)) : JJ X (AM ad) Q nL (MW D dA ad u) k n pc lv (.ref (ad 0) :: st) :=
  jm_calli (na := 0) (As := []) hX hK (mmw_commonest (jj_l X) D dA ad hD  u Post h) hlk q1974 q1975 q129 q1976 hd_mw_commonest rfl rfl hw hF hL hk hk2 d q hq kk
/-- RaisedPressModel.shorter(I)I -/
def mw_shorter (x1 : Int32) (u : MS) (Post : Int32 → MS → Prop) : Prop :=
  Post (((jm_i u 1 4) - x1) * ((jm_i u 1 4) - x1)) u
set_option maxHeartbeats 4000000 in
set_option maxRecDepth 100000 in
theorem mmw_shorter (l : Launch) (D : va_G) (dA ad : Nat → Nat) (hD : MD ad) (x1 : Int32) (u : MS) (Post : Int32 → MS → Prop) (h : mw_shorter x1 u Post) : Met l yX7_shorter (ws_ yX7_shorter cX7_shorter 2 (Option.some Jvm.ClassFile.FieldType.int)) (jm_rm 0 0) (jm_Pc D dA ad u [.int x1]) (va_Qi Post (jm_B D dA ad) (AM ad)) 0 0 (AM ad) := by
  refine jm_start [.int x1] [(0, .ref (ad 0)), (1, .int x1)] (by decide) (Nat.le_of_ble_eq_true rfl) rfl (fun X hX hK => ?_)
  unfold mw_shorter at h
  refine jt_0 hX hK dX7_shorter_0 0 rfl dX7_shorter_1 q1484 4 rfl rfl ?_
  refine jj_iconst hX dX7_shorter_4 ci_4 5 rfl ?_
  refine jr_1 hX hK 4 kc_4 vi_1_4 dX7_shorter_5 6 rfl ?_
  refine jj_iload_n hX dX7_shorter_6 1 rfl 7 rfl ?_
  refine jj_isub hX dX7_shorter_7 8 rfl ?_
  refine jt_0 hX hK dX7_shorter_8 0 rfl dX7_shorter_9 q1484 12 rfl rfl ?_
  refine jj_iconst hX dX7_shorter_12 ci_4 13 rfl ?_
  refine jr_1 hX hK 4 kc_4 vi_1_4 dX7_shorter_13 14 rfl ?_
  refine jj_iload_n hX dX7_shorter_14 1 rfl 15 rfl ?_
  refine jj_isub hX dX7_shorter_15 16 rfl ?_
  refine jj_imul hX dX7_shorter_16 17 rfl ?_
  exact jj_reti (post := Post) (u := u) hX dX7_shorter_17 (Nat.le_refl 0) (Nat.le_refl 0) jm_hB h
theorem hd_mw_shorter : yX7_shorter.cls = RX7 ∧ yX7_shorter.cls ≠ "java/lang/invoke/MethodHandle" ∧ yX7_shorter.cls ≠ "java/lang/invoke/VarHandle" ∧ (parseMethodDescriptor yX7_shorter.desc).map (fun d => d.parameters.length) = some 1 := by decide +kernel
theorem kmw_shorter {X : JC} {Q : State → Prop} {nL k n pc : Nat} {lv : List (Nat × Value)} {st : List Value} {own : String} {cc : ByteArray} {ret : Option FieldType} {F LL mc ms ix : Nat} {D : va_G} {dA ad : Nat → Nat} {x1 : Int32} {u : MS} {Post : Int32 → MS → Prop} (hX : JX X own cc nL ret F LL mc ms) (hK : KM D dA (jj_s X)) (hD : MD ad) (hlk : (Cond.methodLink own ix yX7_shorter) ∈ lw_all) (hF : 0 + 1 ≤ F) (hL : 8 + (2 + 11) + 0 ≤ LL) (hk : k ≤ mc) (hk2 : n ≤ ms) (hw : (st.map fun v => v.category).sum ≤ 8) (d : decode cc pc = .ok (.invokevirtual ix, 3)) (q : Nat) (hq : pc + 3 = q) (h : mw_shorter x1 u Post) (kk : ∀ (r : Int32) (u2 : MS), Post r u2 → JJ X (AM ad) Q nL (MW D dA ad u2) k n q lv (.int r :: st)) : JJ X (AM ad) Q nL (MW D dA ad u) k n pc lv (.int x1 :: .ref (ad 0) :: st) :=
  jm_calli (na := 1) (As := [.int x1]) hX hK (mmw_shorter (jj_l X) D dA ad hD x1 u Post h) hlk q1983 qs99 q129 q1984 hd_mw_shorter rfl rfl hw hF hL hk hk2 d q hq kk
def mw_ragged_L22_S (Post : Int32 → MS → Prop) (R : Int32 → Int32 → MS → Prop) (x1 : Int32) (x2 : Int32) (u : MS) : Prop :=
  (((jm_i u 0 27) - (1 : Int32)) ≤ x2 →
    mw_gives x1 u (fun r53 u53 =>
      Post r53 u53)) ∧
  (¬ ((jm_i u 0 27) - (1 : Int32)) ≤ x2 →
    vp_in x2 1300 ∧
    mw_shorter (jm_i u 9 x2.toNatClampNeg) u (fun r40 u40 =>
      ∀ v44 : Int32, v44 = (x1 + r40) →
      ∀ v45 : Int32, v45 = x2 + (1 : Int32) →
      R v44 v45 u40))
def mw_ragged_L22 (Post : Int32 → MS → Prop) : Nat → Int32 → Int32 → MS → Prop
  | 0 => fun _ _ _ => False
  | n + 1 => fun x1 x2 u => mw_ragged_L22_S Post (mw_ragged_L22 Post n) x1 x2 u
/-- RaisedPressModel.ragged()I -/
def mw_ragged (u : MS) (Post : Int32 → MS → Prop) : Prop :=
  mw_isSet u (fun r1 u1 =>
    (¬ r1 = 0 →
      mw_laysLines u1 (fun u15 =>
        ∃ n, mw_ragged_L22 Post n (0 : Int32) (0 : Int32) u15)) ∧
    (r1 = 0 →
      mw_refuse (6 : Int32) u1 (fun r10 u10 =>
        Post r10 u10)))
set_option maxHeartbeats 4000000 in
set_option maxRecDepth 100000 in
theorem tmw_ragged_L22 {X : JC} {D : va_G} {dA ad : Nat → Nat} {Post : Int32 → MS → Prop} (hX : JX X yX7_ragged.cls cX7_ragged 3 (Option.some Jvm.ClassFile.FieldType.int) 2 47 0 0) (hK : KM D dA (jj_s X)) (hD : MD ad) : ∀ (n : Nat) (x1 : Int32) (x2 : Int32) (u : MS), mw_ragged_L22 Post n x1 x2 u → JJ X (AM ad) (jj_Q X (va_Qi Post (jm_B D dA ad) (AM ad)) 0 0 (AM ad)) 3 (MW D dA ad u) 0 0 22 [(0, .ref (ad 0)), (1, .int x1), (2, .int x2)] [] := by
  intro n
  induction n with
  | zero =>
    intro x1 x2 u h
    exact h.elim
  | succ n ih =>
    intro x1 x2 u h
    have h : mw_ragged_L22_S Post (mw_ragged_L22 Post n) x1 x2 u := h
    unfold mw_ragged_L22_S at h
    refine jj_iload_n hX dX7_ragged_22 2 rfl 23 rfl ?_
    refine jt_27 hX hK dX7_ragged_23 0 rfl dX7_ragged_24 q1511 27 rfl rfl ?_
    refine jj_iconst hX dX7_ragged_27 ci_1 28 rfl ?_
    refine jj_isub hX dX7_ragged_28 29 rfl ?_
    refine jj_icmp_ge hX dX7_ragged_29 51 32 (by decide) rfl (fun c29 => ?_) (fun c29 => ?_)
    · have h := h.1 c29
      refine jj_aload_n hX dX7_ragged_51 0 rfl 52 rfl ?_
      refine jj_iload_n hX dX7_ragged_52 1 rfl 53 rfl ?_
      refine kmw_gives hX hK hD q1752 (Nat.le_of_ble_eq_true rfl) (Nat.le_of_ble_eq_true rfl) (Nat.zero_le _) (Nat.zero_le _) (Nat.le_of_ble_eq_true rfl) dX7_ragged_53 56 rfl h (fun r53 u53 h => ?_)
      exact jj_reti (post := Post) (u := u53) hX dX7_ragged_56 (Nat.le_refl 0) (Nat.le_refl 0) jm_hB h
    · have h := h.2 c29
      refine jj_iload_n hX dX7_ragged_32 1 rfl 33 rfl ?_
      refine jj_aload_n hX dX7_ragged_33 0 rfl 34 rfl ?_
      refine jt_24 hX hK dX7_ragged_34 0 rfl dX7_ragged_35 q1508 38 rfl rfl ?_
      refine jj_iload_n hX dX7_ragged_38 2 rfl 39 rfl ?_
      obtain ⟨hi39, h⟩ := h
      refine jr_9 hX hK _ rfl hi39 dX7_ragged_39 40 rfl ?_
      refine kmw_shorter hX hK hD q1981 (Nat.le_of_ble_eq_true rfl) (Nat.le_of_ble_eq_true rfl) (Nat.zero_le _) (Nat.zero_le _) (Nat.le_of_ble_eq_true rfl) dX7_ragged_40 43 rfl h (fun r40 u40 h => ?_)
      refine jj_iadd hX dX7_ragged_43 44 rfl ?_
      refine jj_topi (fun v44 e44 => ?_)
      have h := h v44 e44
      refine jj_istore_n (lv2 := [(0, .ref (ad 0)), (1, .int v44), (2, .int x2)]) hX dX7_ragged_44 (Nat.le_of_ble_eq_true rfl) [1, 0, 2] rfl 45 rfl ?_
      obtain ⟨v45, e45⟩ : ∃ y : Int32, y = x2 + (1 : Int32) := ⟨_, rfl⟩
      have h := h v45 e45
      refine jj_iinc (v := v45) (lv2 := [(0, .ref (ad 0)), (1, .int v44), (2, .int v45)]) hX dX7_ragged_45 2 rfl (by rw [e45, ci_1]) (Nat.le_of_ble_eq_true rfl) [1, 2, 0] rfl 48 rfl ?_
      refine jj_goto hX dX7_ragged_48 22 (by decide) ?_
      exact ih _ _ _ h
set_option maxHeartbeats 4000000 in
set_option maxRecDepth 100000 in
theorem mmw_ragged (l : Launch) (D : va_G) (dA ad : Nat → Nat) (hD : MD ad) (u : MS) (Post : Int32 → MS → Prop) (h : mw_ragged  u Post) : Met l yX7_ragged (ws_ yX7_ragged cX7_ragged 3 (Option.some Jvm.ClassFile.FieldType.int)) (jm_rm 2 47) (jm_Pc D dA ad u []) (va_Qi Post (jm_B D dA ad) (AM ad)) 0 0 (AM ad) := by
  refine jm_start [] [(0, .ref (ad 0))] (by decide) (Nat.le_of_ble_eq_true rfl) rfl (fun X hX hK => ?_)
  unfold mw_ragged at h
  refine jj_aload_n hX dX7_ragged_0 0 rfl 1 rfl ?_
  refine kmw_isSet hX hK hD q1864 (Nat.le_of_ble_eq_true rfl) (Nat.le_of_ble_eq_true rfl) (Nat.zero_le _) (Nat.zero_le _) (Nat.le_of_ble_eq_true rfl) dX7_ragged_1 4 rfl h (fun r1 u1 hb1 h => ?_)
  refine jj_if_ne hX dX7_ragged_4 14 7 (by decide) rfl (fun c4 => ?_) (fun c4 => ?_)
  · have h := h.1 c4
    refine jj_aload_n hX dX7_ragged_14 0 rfl 15 rfl ?_
    refine kmw_laysLines hX hK hD q1876 (Nat.le_of_ble_eq_true rfl) (Nat.le_of_ble_eq_true rfl) (Nat.zero_le _) (Nat.zero_le _) (Nat.le_of_ble_eq_true rfl) dX7_ragged_15 18 rfl h (fun u15 h => ?_)
    refine jj_iconst hX dX7_ragged_18 ci_0 19 rfl ?_
    refine jj_istore_n (lv2 := [(0, .ref (ad 0)), (1, .int (0 : Int32))]) hX dX7_ragged_19 (Nat.le_of_ble_eq_true rfl) [1, 0] rfl 20 rfl ?_
    refine jj_iconst hX dX7_ragged_20 ci_0 21 rfl ?_
    refine jj_istore_n (lv2 := [(0, .ref (ad 0)), (1, .int (0 : Int32)), (2, .int (0 : Int32))]) hX dX7_ragged_21 (Nat.le_of_ble_eq_true rfl) [1, 2, 0] rfl 22 rfl ?_
    obtain ⟨n9, h⟩ := h
    exact tmw_ragged_L22 hX hK hD n9 _ _ _ h
  · have h := h.2 c4
    refine jj_aload_n hX dX7_ragged_7 0 rfl 8 rfl ?_
    refine jj_bipush hX dX7_ragged_8 cb_6 10 rfl ?_
    refine kmw_refuse hX hK hD q1702 (Nat.le_of_ble_eq_true rfl) (Nat.le_of_ble_eq_true rfl) (Nat.zero_le _) (Nat.zero_le _) (Nat.le_of_ble_eq_true rfl) dX7_ragged_10 13 rfl h (fun r10 u10 h => ?_)
    exact jj_reti (post := Post) (u := u10) hX dX7_ragged_13 (Nat.le_refl 0) (Nat.le_refl 0) jm_hB h
theorem hd_mw_ragged : yX7_ragged.cls = RX7 ∧ yX7_ragged.cls ≠ "java/lang/invoke/MethodHandle" ∧ yX7_ragged.cls ≠ "java/lang/invoke/VarHandle" ∧ (parseMethodDescriptor yX7_ragged.desc).map (fun d => d.parameters.length) = some 0 := by decide +kernel
theorem kmw_ragged {X : JC} {Q : State → Prop} {nL k n pc : Nat} {lv : List (Nat × Value)} {st : List Value} {own : String} {cc : ByteArray} {ret : Option FieldType} {F LL mc ms ix : Nat} {D : va_G} {dA ad : Nat → Nat} {u : MS} {Post : Int32 → MS → Prop} (hX : JX X own cc nL ret F LL mc ms) (hK : KM D dA (jj_s X)) (hD : MD ad) (hlk : (Cond.methodLink own ix yX7_ragged) ∈ lw_all) (hF : 2 + 1 ≤ F) (hL : 8 + (3 + 11) + 47 ≤ LL) (hk : k ≤ mc) (hk2 : n ≤ ms) (hw : (st.map fun v => v.category).sum ≤ 8) (d : decode cc pc = .ok (.invokevirtual ix, 3)) (q : Nat) (hq : pc + 3 = q) (h : mw_ragged  u Post) (kk : ∀ (r : Int32) (u2 : MS), Post r u2 → JJ X (AM ad) Q nL (MW D dA ad u2) k n q lv (.int r :: st)) : JJ X (AM ad) Q nL (MW D dA ad u) k n pc lv (.ref (ad 0) :: st) :=
  jm_calli (na := 0) (As := []) hX hK (mmw_ragged (jj_l X) D dA ad hD  u Post h) hlk q1978 q1979 q129 q1980 hd_mw_ragged rfl rfl hw hF hL hk hk2 d q hq kk
def mw_leastRagged_L81_S (K67 : Int32 → MS → Prop) (Post : Int32 → MS → Prop) (x1 : Int32) (x2 : Int32) (R : Int32 → Int32 → Int32 → MS → Prop) (x3 : Int32) (x4 : Int32) (x5 : Int32) (u : MS) : Prop :=
  (x1 ≤ x5 →
    vp_in x2 160 ∧
    ∀ u158 : MS, u158 = jm_s u 12 x2.toNatClampNeg x4 →
    ∀ v159 : Int32, v159 = x2 + (-1 : Int32) →
    K67 v159 u158) ∧
  (¬ x1 ≤ x5 →
    mw_pieceMany x5 u (fun r92 u92 =>
      ∀ v97 : Int32, v97 = (x3 + ((1 : Int32) + r92)) →
      (v97 ≤ (jm_i u92 1 4) →
        (¬ (x5 + (1 : Int32)) = x1 →
          mw_shorter v97 u92 (fun r127 u127 =>
            vp_in (x5 + (1 : Int32)) 160 ∧
            jw_min x4 (r127 + (jm_i u127 12 (x5 + (1 : Int32)).toNatClampNeg)) (fun r140 =>
              ∀ v145 : Int32, v145 = x5 + (1 : Int32) →
              R v97 r140 v145 u127))) ∧
        ((x5 + (1 : Int32)) = x1 →
          jw_min x4 (0 : Int32) (fun r140 =>
            ∀ v145 : Int32, v145 = x5 + (1 : Int32) →
            R v97 r140 v145 u92))) ∧
      (¬ v97 ≤ (jm_i u92 1 4) →
        vp_in x2 160 ∧
        ∀ u158 : MS, u158 = jm_s u92 12 x2.toNatClampNeg x4 →
        ∀ v159 : Int32, v159 = x2 + (-1 : Int32) →
        K67 v159 u158)))
def mw_leastRagged_L81 (K67 : Int32 → MS → Prop) (Post : Int32 → MS → Prop) (x1 : Int32) (x2 : Int32) : Nat → Int32 → Int32 → Int32 → MS → Prop
  | 0 => fun _ _ _ _ => False
  | n + 1 => fun x3 x4 x5 u => mw_leastRagged_L81_S K67 Post x1 x2 (mw_leastRagged_L81 K67 Post x1 x2 n) x3 x4 x5 u
def mw_leastRagged_L67_S (Post : Int32 → MS → Prop) (x1 : Int32) (R : Int32 → MS → Prop) (x2 : Int32) (u : MS) : Prop :=
  (x2 < 0 →
    mw_gives (jm_i u 12 0) u (fun r172 u172 =>
      Post r172 u172)) ∧
  (¬ x2 < 0 →
    ∃ n, mw_leastRagged_L81 R Post x1 x2 n (-1 : Int32) (2147483647 : Int32) x2 u)
def mw_leastRagged_L67 (Post : Int32 → MS → Prop) (x1 : Int32) : Nat → Int32 → MS → Prop
  | 0 => fun _ _ => False
  | n + 1 => fun x2 u => mw_leastRagged_L67_S Post x1 (mw_leastRagged_L67 Post x1 n) x2 u
def mw_leastRagged_L24_S (Post : Int32 → MS → Prop) (x1 : Int32) (R : Int32 → MS → Prop) (x2 : Int32) (u : MS) : Prop :=
  (x1 ≤ x2 →
    vp_in x1 160 ∧
    ∀ u62 : MS, u62 = jm_s u 12 x1.toNatClampNeg (0 : Int32) →
    ∀ v66 : Int32, v66 = (x1 - (1 : Int32)) →
    ∃ n, mw_leastRagged_L67 Post x1 n v66 u62) ∧
  (¬ x1 ≤ x2 →
    mw_pieceMany x2 u (fun r31 u31 =>
      (r31 ≤ (jm_i u31 1 4) →
        ∀ v50 : Int32, v50 = x2 + (1 : Int32) →
        R v50 u31) ∧
      (¬ r31 ≤ (jm_i u31 1 4) →
        mw_refuse (7 : Int32) u31 (fun r46 u46 =>
          Post r46 u46))))
def mw_leastRagged_L24 (Post : Int32 → MS → Prop) (x1 : Int32) : Nat → Int32 → MS → Prop
  | 0 => fun _ _ => False
  | n + 1 => fun x2 u => mw_leastRagged_L24_S Post x1 (mw_leastRagged_L24 Post x1 n) x2 u
/-- RaisedPressModel.leastRagged()I -/
def mw_leastRagged (u : MS) (Post : Int32 → MS → Prop) : Prop :=
  mw_isSet u (fun r1 u1 =>
    (¬ r1 = 0 →
      ∀ v21 : Int32, v21 = (jm_i u1 1 9) →
      ∃ n, mw_leastRagged_L24 Post v21 n (0 : Int32) u1) ∧
    (r1 = 0 →
      mw_refuse (6 : Int32) u1 (fun r10 u10 =>
        Post r10 u10)))
set_option maxHeartbeats 4000000 in
set_option maxRecDepth 100000 in
theorem tmw_leastRagged_L81 {X : JC} {D : va_G} {dA ad : Nat → Nat} {K67 : Int32 → MS → Prop} {Post : Int32 → MS → Prop} {x1 : Int32} {x2 : Int32} (hX : JX X yX7_leastRagged.cls cX7_leastRagged 6 (Option.some Jvm.ClassFile.FieldType.int) 1 21 0 0) (hK : KM D dA (jj_s X)) (hD : MD ad) (hK67 : ∀ (y2 : Int32) (u : MS), K67 y2 u → JJ X (AM ad) (jj_Q X (va_Qi Post (jm_B D dA ad) (AM ad)) 0 0 (AM ad)) 6 (MW D dA ad u) 0 0 67 [(0, .ref (ad 0)), (1, .int x1), (2, .int y2)] []) : ∀ (n : Nat) (x3 : Int32) (x4 : Int32) (x5 : Int32) (u : MS), mw_leastRagged_L81 K67 Post x1 x2 n x3 x4 x5 u → JJ X (AM ad) (jj_Q X (va_Qi Post (jm_B D dA ad) (AM ad)) 0 0 (AM ad)) 6 (MW D dA ad u) 0 0 81 [(0, .ref (ad 0)), (1, .int x1), (2, .int x2), (3, .int x3), (4, .int x4), (5, .int x5)] [] := by
  intro n
  induction n with
  | zero =>
    intro x3 x4 x5 u h
    exact h.elim
  | succ n ih =>
    intro x3 x4 x5 u h
    have h : mw_leastRagged_L81_S K67 Post x1 x2 (mw_leastRagged_L81 K67 Post x1 x2 n) x3 x4 x5 u := h
    unfold mw_leastRagged_L81_S at h
    refine jj_iload hX dX7_leastRagged_81 5 rfl 83 rfl ?_
    refine jj_iload_n hX dX7_leastRagged_83 1 rfl 84 rfl ?_
    refine jj_icmp_ge hX dX7_leastRagged_84 151 87 (by decide) rfl (fun c84 => ?_) (fun c84 => ?_)
    · have h := h.1 c84
      refine jt_30 hX hK dX7_leastRagged_151 0 rfl dX7_leastRagged_152 q1514 155 rfl rfl ?_
      refine jj_iload_n hX dX7_leastRagged_155 2 rfl 156 rfl ?_
      refine jj_iload hX dX7_leastRagged_156 4 rfl 158 rfl ?_
      obtain ⟨hi158, h⟩ := h
      refine jw_12 hX hK hD _ rfl hi158 dX7_leastRagged_158 159 rfl (fun u158 e158 => ?_)
      have h := h u158 e158
      obtain ⟨v159, e159⟩ : ∃ y : Int32, y = x2 + (-1 : Int32) := ⟨_, rfl⟩
      have h := h v159 e159
      refine jj_iinc (v := v159) (lv2 := [(0, .ref (ad 0)), (1, .int x1), (2, .int v159), (3, .int x3), (4, .int x4), (5, .int x5)]) hX dX7_leastRagged_159 2 rfl (by rw [e159, ci_m1]) (Nat.le_of_ble_eq_true rfl) [1, 2, 0, 3, 4, 5] rfl 162 rfl ?_
      refine jj_goto hX dX7_leastRagged_162 67 (by decide) ?_
      refine jj_sub (lv2 := [(0, .ref (ad 0)), (1, .int x1), (2, .int v159)]) [0, 1, 2] rfl ?_
      exact hK67 _ _ h
    · have h := h.2 c84
      refine jj_iload_n hX dX7_leastRagged_87 3 rfl 88 rfl ?_
      refine jj_iconst hX dX7_leastRagged_88 ci_1 89 rfl ?_
      refine jj_aload_n hX dX7_leastRagged_89 0 rfl 90 rfl ?_
      refine jj_iload hX dX7_leastRagged_90 5 rfl 92 rfl ?_
      refine kmw_pieceMany hX hK hD q1880 (Nat.le_of_ble_eq_true rfl) (Nat.le_of_ble_eq_true rfl) (Nat.zero_le _) (Nat.zero_le _) (Nat.le_of_ble_eq_true rfl) dX7_leastRagged_92 95 rfl h (fun r92 u92 h => ?_)
      refine jj_iadd hX dX7_leastRagged_95 96 rfl ?_
      refine jj_iadd hX dX7_leastRagged_96 97 rfl ?_
      refine jj_topi (fun v97 e97 => ?_)
      have h := h v97 e97
      refine jj_istore_n (lv2 := [(0, .ref (ad 0)), (1, .int x1), (2, .int x2), (3, .int v97), (4, .int x4), (5, .int x5)]) hX dX7_leastRagged_97 (Nat.le_of_ble_eq_true rfl) [1, 2, 3, 0, 4, 5] rfl 98 rfl ?_
      refine jj_iload_n hX dX7_leastRagged_98 3 rfl 99 rfl ?_
      refine jt_0 hX hK dX7_leastRagged_99 0 rfl dX7_leastRagged_100 q1484 103 rfl rfl ?_
      refine jj_iconst hX dX7_leastRagged_103 ci_4 104 rfl ?_
      refine jr_1 hX hK 4 kc_4 vi_1_4 dX7_leastRagged_104 105 rfl ?_
      refine jj_icmp_le hX dX7_leastRagged_105 111 108 (by decide) rfl (fun c105 => ?_) (fun c105 => ?_)
      · have h := h.1 c105
        refine jj_iload hX dX7_leastRagged_111 4 rfl 113 rfl ?_
        refine jj_iload hX dX7_leastRagged_113 5 rfl 115 rfl ?_
        refine jj_iconst hX dX7_leastRagged_115 ci_1 116 rfl ?_
        refine jj_iadd hX dX7_leastRagged_116 117 rfl ?_
        refine jj_iload_n hX dX7_leastRagged_117 1 rfl 118 rfl ?_
        refine jj_icmp_ne hX dX7_leastRagged_118 125 121 (by decide) rfl (fun c118 => ?_) (fun c118 => ?_)
        · have h := h.1 c118
          refine jj_aload_n hX dX7_leastRagged_125 0 rfl 126 rfl ?_
          refine jj_iload_n hX dX7_leastRagged_126 3 rfl 127 rfl ?_
          refine kmw_shorter hX hK hD q1981 (Nat.le_of_ble_eq_true rfl) (Nat.le_of_ble_eq_true rfl) (Nat.zero_le _) (Nat.zero_le _) (Nat.le_of_ble_eq_true rfl) dX7_leastRagged_127 130 rfl h (fun r127 u127 h => ?_)
          refine jt_30 hX hK dX7_leastRagged_130 0 rfl dX7_leastRagged_131 q1514 134 rfl rfl ?_
          refine jj_iload hX dX7_leastRagged_134 5 rfl 136 rfl ?_
          refine jj_iconst hX dX7_leastRagged_136 ci_1 137 rfl ?_
          refine jj_iadd hX dX7_leastRagged_137 138 rfl ?_
          obtain ⟨hi138, h⟩ := h
          refine jr_12 hX hK _ rfl hi138 dX7_leastRagged_138 139 rfl ?_
          refine jj_iadd hX dX7_leastRagged_139 140 rfl ?_
          refine kjw_min hX MW.keeps q1701 (Nat.le_of_ble_eq_true rfl) (Nat.le_of_ble_eq_true rfl) (Nat.zero_le _) (Nat.zero_le _) (Nat.le_of_ble_eq_true rfl) dX7_leastRagged_140 143 rfl h (fun r140 h => ?_)
          refine jj_istore (lv2 := [(0, .ref (ad 0)), (1, .int x1), (2, .int x2), (3, .int v97), (4, .int r140), (5, .int x5)]) hX dX7_leastRagged_143 (Nat.le_of_ble_eq_true rfl) [1, 2, 3, 4, 0, 5] rfl 145 rfl ?_
          obtain ⟨v145, e145⟩ : ∃ y : Int32, y = x5 + (1 : Int32) := ⟨_, rfl⟩
          have h := h v145 e145
          refine jj_iinc (v := v145) (lv2 := [(0, .ref (ad 0)), (1, .int x1), (2, .int x2), (3, .int v97), (4, .int r140), (5, .int v145)]) hX dX7_leastRagged_145 5 rfl (by rw [e145, ci_1]) (Nat.le_of_ble_eq_true rfl) [1, 2, 3, 4, 5, 0] rfl 148 rfl ?_
          refine jj_goto hX dX7_leastRagged_148 81 (by decide) ?_
          exact ih _ _ _ _ h
        · have h := h.2 c118
          refine jj_iconst hX dX7_leastRagged_121 ci_0 122 rfl ?_
          refine jj_goto hX dX7_leastRagged_122 140 (by decide) ?_
          refine kjw_min hX MW.keeps q1701 (Nat.le_of_ble_eq_true rfl) (Nat.le_of_ble_eq_true rfl) (Nat.zero_le _) (Nat.zero_le _) (Nat.le_of_ble_eq_true rfl) dX7_leastRagged_140 143 rfl h (fun r140 h => ?_)
          refine jj_istore (lv2 := [(0, .ref (ad 0)), (1, .int x1), (2, .int x2), (3, .int v97), (4, .int r140), (5, .int x5)]) hX dX7_leastRagged_143 (Nat.le_of_ble_eq_true rfl) [1, 2, 3, 4, 0, 5] rfl 145 rfl ?_
          obtain ⟨v145, e145⟩ : ∃ y : Int32, y = x5 + (1 : Int32) := ⟨_, rfl⟩
          have h := h v145 e145
          refine jj_iinc (v := v145) (lv2 := [(0, .ref (ad 0)), (1, .int x1), (2, .int x2), (3, .int v97), (4, .int r140), (5, .int v145)]) hX dX7_leastRagged_145 5 rfl (by rw [e145, ci_1]) (Nat.le_of_ble_eq_true rfl) [1, 2, 3, 4, 5, 0] rfl 148 rfl ?_
          refine jj_goto hX dX7_leastRagged_148 81 (by decide) ?_
          exact ih _ _ _ _ h
      · have h := h.2 c105
        refine jj_goto hX dX7_leastRagged_108 151 (by decide) ?_
        refine jt_30 hX hK dX7_leastRagged_151 0 rfl dX7_leastRagged_152 q1514 155 rfl rfl ?_
        refine jj_iload_n hX dX7_leastRagged_155 2 rfl 156 rfl ?_
        refine jj_iload hX dX7_leastRagged_156 4 rfl 158 rfl ?_
        obtain ⟨hi158, h⟩ := h
        refine jw_12 hX hK hD _ rfl hi158 dX7_leastRagged_158 159 rfl (fun u158 e158 => ?_)
        have h := h u158 e158
        obtain ⟨v159, e159⟩ : ∃ y : Int32, y = x2 + (-1 : Int32) := ⟨_, rfl⟩
        have h := h v159 e159
        refine jj_iinc (v := v159) (lv2 := [(0, .ref (ad 0)), (1, .int x1), (2, .int v159), (3, .int v97), (4, .int x4), (5, .int x5)]) hX dX7_leastRagged_159 2 rfl (by rw [e159, ci_m1]) (Nat.le_of_ble_eq_true rfl) [1, 2, 0, 3, 4, 5] rfl 162 rfl ?_
        refine jj_goto hX dX7_leastRagged_162 67 (by decide) ?_
        refine jj_sub (lv2 := [(0, .ref (ad 0)), (1, .int x1), (2, .int v159)]) [0, 1, 2] rfl ?_
        exact hK67 _ _ h
set_option maxHeartbeats 4000000 in
set_option maxRecDepth 100000 in
theorem tmw_leastRagged_L67 {X : JC} {D : va_G} {dA ad : Nat → Nat} {Post : Int32 → MS → Prop} {x1 : Int32} (hX : JX X yX7_leastRagged.cls cX7_leastRagged 6 (Option.some Jvm.ClassFile.FieldType.int) 1 21 0 0) (hK : KM D dA (jj_s X)) (hD : MD ad) : ∀ (n : Nat) (x2 : Int32) (u : MS), mw_leastRagged_L67 Post x1 n x2 u → JJ X (AM ad) (jj_Q X (va_Qi Post (jm_B D dA ad) (AM ad)) 0 0 (AM ad)) 6 (MW D dA ad u) 0 0 67 [(0, .ref (ad 0)), (1, .int x1), (2, .int x2)] [] := by
  intro n
  induction n with
  | zero =>
    intro x2 u h
    exact h.elim
  | succ n ih =>
    intro x2 u h
    have h : mw_leastRagged_L67_S Post x1 (mw_leastRagged_L67 Post x1 n) x2 u := h
    unfold mw_leastRagged_L67_S at h
    refine jj_iload_n hX dX7_leastRagged_67 2 rfl 68 rfl ?_
    refine jj_if_lt hX dX7_leastRagged_68 165 71 (by decide) rfl (fun c68 => ?_) (fun c68 => ?_)
    · have h := h.1 c68
      refine jj_aload_n hX dX7_leastRagged_165 0 rfl 166 rfl ?_
      refine jt_30 hX hK dX7_leastRagged_166 0 rfl dX7_leastRagged_167 q1514 170 rfl rfl ?_
      refine jj_iconst hX dX7_leastRagged_170 ci_0 171 rfl ?_
      refine jr_12 hX hK 0 kc_0 vi_12_0 dX7_leastRagged_171 172 rfl ?_
      refine kmw_gives hX hK hD q1752 (Nat.le_of_ble_eq_true rfl) (Nat.le_of_ble_eq_true rfl) (Nat.zero_le _) (Nat.zero_le _) (Nat.le_of_ble_eq_true rfl) dX7_leastRagged_172 175 rfl h (fun r172 u172 h => ?_)
      exact jj_reti (post := Post) (u := u172) hX dX7_leastRagged_175 (Nat.le_refl 0) (Nat.le_refl 0) jm_hB h
    · have h := h.2 c68
      refine jj_iconst hX dX7_leastRagged_71 ci_m1 72 rfl ?_
      refine jj_istore_n (lv2 := [(0, .ref (ad 0)), (1, .int x1), (2, .int x2), (3, .int (-1 : Int32))]) hX dX7_leastRagged_72 (Nat.le_of_ble_eq_true rfl) [1, 2, 3, 0] rfl 73 rfl ?_
      refine jj_ldcw (v := 2147483647) hX dX7_leastRagged_73 q1989 76 rfl ?_
      refine jj_istore (lv2 := [(0, .ref (ad 0)), (1, .int x1), (2, .int x2), (3, .int (-1 : Int32)), (4, .int (2147483647 : Int32))]) hX dX7_leastRagged_76 (Nat.le_of_ble_eq_true rfl) [1, 2, 3, 4, 0] rfl 78 rfl ?_
      refine jj_iload_n hX dX7_leastRagged_78 2 rfl 79 rfl ?_
      refine jj_istore (lv2 := [(0, .ref (ad 0)), (1, .int x1), (2, .int x2), (3, .int (-1 : Int32)), (4, .int (2147483647 : Int32)), (5, .int x2)]) hX dX7_leastRagged_79 (Nat.le_of_ble_eq_true rfl) [1, 2, 3, 4, 5, 0] rfl 81 rfl ?_
      obtain ⟨n9, h⟩ := h
      exact tmw_leastRagged_L81 hX hK hD ih n9 _ _ _ _ h
set_option maxHeartbeats 4000000 in
set_option maxRecDepth 100000 in
theorem tmw_leastRagged_L24 {X : JC} {D : va_G} {dA ad : Nat → Nat} {Post : Int32 → MS → Prop} {x1 : Int32} (hX : JX X yX7_leastRagged.cls cX7_leastRagged 6 (Option.some Jvm.ClassFile.FieldType.int) 1 21 0 0) (hK : KM D dA (jj_s X)) (hD : MD ad) : ∀ (n : Nat) (x2 : Int32) (u : MS), mw_leastRagged_L24 Post x1 n x2 u → JJ X (AM ad) (jj_Q X (va_Qi Post (jm_B D dA ad) (AM ad)) 0 0 (AM ad)) 6 (MW D dA ad u) 0 0 24 [(0, .ref (ad 0)), (1, .int x1), (2, .int x2)] [] := by
  intro n
  induction n with
  | zero =>
    intro x2 u h
    exact h.elim
  | succ n ih =>
    intro x2 u h
    have h : mw_leastRagged_L24_S Post x1 (mw_leastRagged_L24 Post x1 n) x2 u := h
    unfold mw_leastRagged_L24_S at h
    refine jj_iload_n hX dX7_leastRagged_24 2 rfl 25 rfl ?_
    refine jj_iload_n hX dX7_leastRagged_25 1 rfl 26 rfl ?_
    refine jj_icmp_ge hX dX7_leastRagged_26 56 29 (by decide) rfl (fun c26 => ?_) (fun c26 => ?_)
    · have h := h.1 c26
      refine jt_30 hX hK dX7_leastRagged_56 0 rfl dX7_leastRagged_57 q1514 60 rfl rfl ?_
      refine jj_iload_n hX dX7_leastRagged_60 1 rfl 61 rfl ?_
      refine jj_iconst hX dX7_leastRagged_61 ci_0 62 rfl ?_
      obtain ⟨hi62, h⟩ := h
      refine jw_12 hX hK hD _ rfl hi62 dX7_leastRagged_62 63 rfl (fun u62 e62 => ?_)
      have h := h u62 e62
      refine jj_iload_n hX dX7_leastRagged_63 1 rfl 64 rfl ?_
      refine jj_iconst hX dX7_leastRagged_64 ci_1 65 rfl ?_
      refine jj_isub hX dX7_leastRagged_65 66 rfl ?_
      refine jj_topi (fun v66 e66 => ?_)
      have h := h v66 e66
      refine jj_istore_n (lv2 := [(0, .ref (ad 0)), (1, .int x1), (2, .int v66)]) hX dX7_leastRagged_66 (Nat.le_of_ble_eq_true rfl) [1, 2, 0] rfl 67 rfl ?_
      obtain ⟨n9, h⟩ := h
      exact tmw_leastRagged_L67 hX hK hD n9 _ _ h
    · have h := h.2 c26
      refine jj_aload_n hX dX7_leastRagged_29 0 rfl 30 rfl ?_
      refine jj_iload_n hX dX7_leastRagged_30 2 rfl 31 rfl ?_
      refine kmw_pieceMany hX hK hD q1880 (Nat.le_of_ble_eq_true rfl) (Nat.le_of_ble_eq_true rfl) (Nat.zero_le _) (Nat.zero_le _) (Nat.le_of_ble_eq_true rfl) dX7_leastRagged_31 34 rfl h (fun r31 u31 h => ?_)
      refine jt_0 hX hK dX7_leastRagged_34 0 rfl dX7_leastRagged_35 q1484 38 rfl rfl ?_
      refine jj_iconst hX dX7_leastRagged_38 ci_4 39 rfl ?_
      refine jr_1 hX hK 4 kc_4 vi_1_4 dX7_leastRagged_39 40 rfl ?_
      refine jj_icmp_le hX dX7_leastRagged_40 50 43 (by decide) rfl (fun c40 => ?_) (fun c40 => ?_)
      · have h := h.1 c40
        obtain ⟨v50, e50⟩ : ∃ y : Int32, y = x2 + (1 : Int32) := ⟨_, rfl⟩
        have h := h v50 e50
        refine jj_iinc (v := v50) (lv2 := [(0, .ref (ad 0)), (1, .int x1), (2, .int v50)]) hX dX7_leastRagged_50 2 rfl (by rw [e50, ci_1]) (Nat.le_of_ble_eq_true rfl) [1, 2, 0] rfl 53 rfl ?_
        refine jj_goto hX dX7_leastRagged_53 24 (by decide) ?_
        exact ih _ _ h
      · have h := h.2 c40
        refine jj_aload_n hX dX7_leastRagged_43 0 rfl 44 rfl ?_
        refine jj_bipush hX dX7_leastRagged_44 cb_7 46 rfl ?_
        refine kmw_refuse hX hK hD q1702 (Nat.le_of_ble_eq_true rfl) (Nat.le_of_ble_eq_true rfl) (Nat.zero_le _) (Nat.zero_le _) (Nat.le_of_ble_eq_true rfl) dX7_leastRagged_46 49 rfl h (fun r46 u46 h => ?_)
        exact jj_reti (post := Post) (u := u46) hX dX7_leastRagged_49 (Nat.le_refl 0) (Nat.le_refl 0) jm_hB h
set_option maxHeartbeats 4000000 in
set_option maxRecDepth 100000 in
theorem mmw_leastRagged (l : Launch) (D : va_G) (dA ad : Nat → Nat) (hD : MD ad) (u : MS) (Post : Int32 → MS → Prop) (h : mw_leastRagged  u Post) : Met l yX7_leastRagged (ws_ yX7_leastRagged cX7_leastRagged 6 (Option.some Jvm.ClassFile.FieldType.int)) (jm_rm 1 21) (jm_Pc D dA ad u []) (va_Qi Post (jm_B D dA ad) (AM ad)) 0 0 (AM ad) := by
  refine jm_start [] [(0, .ref (ad 0))] (by decide) (Nat.le_of_ble_eq_true rfl) rfl (fun X hX hK => ?_)
  unfold mw_leastRagged at h
  refine jj_aload_n hX dX7_leastRagged_0 0 rfl 1 rfl ?_
  refine kmw_isSet hX hK hD q1864 (Nat.le_of_ble_eq_true rfl) (Nat.le_of_ble_eq_true rfl) (Nat.zero_le _) (Nat.zero_le _) (Nat.le_of_ble_eq_true rfl) dX7_leastRagged_1 4 rfl h (fun r1 u1 hb1 h => ?_)
  refine jj_if_ne hX dX7_leastRagged_4 14 7 (by decide) rfl (fun c4 => ?_) (fun c4 => ?_)
  · have h := h.1 c4
    refine jt_0 hX hK dX7_leastRagged_14 0 rfl dX7_leastRagged_15 q1484 18 rfl rfl ?_
    refine jj_bipush hX dX7_leastRagged_18 cb_9 20 rfl ?_
    refine jr_1 hX hK 9 kc_9 vi_1_9 dX7_leastRagged_20 21 rfl ?_
    refine jj_topi (fun v21 e21 => ?_)
    have h := h v21 e21
    refine jj_istore_n (lv2 := [(0, .ref (ad 0)), (1, .int v21)]) hX dX7_leastRagged_21 (Nat.le_of_ble_eq_true rfl) [1, 0] rfl 22 rfl ?_
    refine jj_iconst hX dX7_leastRagged_22 ci_0 23 rfl ?_
    refine jj_istore_n (lv2 := [(0, .ref (ad 0)), (1, .int v21), (2, .int (0 : Int32))]) hX dX7_leastRagged_23 (Nat.le_of_ble_eq_true rfl) [1, 2, 0] rfl 24 rfl ?_
    obtain ⟨n9, h⟩ := h
    exact tmw_leastRagged_L24 hX hK hD n9 _ _ h
  · have h := h.2 c4
    refine jj_aload_n hX dX7_leastRagged_7 0 rfl 8 rfl ?_
    refine jj_bipush hX dX7_leastRagged_8 cb_6 10 rfl ?_
    refine kmw_refuse hX hK hD q1702 (Nat.le_of_ble_eq_true rfl) (Nat.le_of_ble_eq_true rfl) (Nat.zero_le _) (Nat.zero_le _) (Nat.le_of_ble_eq_true rfl) dX7_leastRagged_10 13 rfl h (fun r10 u10 h => ?_)
    exact jj_reti (post := Post) (u := u10) hX dX7_leastRagged_13 (Nat.le_refl 0) (Nat.le_refl 0) jm_hB h
theorem hd_mw_leastRagged : yX7_leastRagged.cls = RX7 ∧ yX7_leastRagged.cls ≠ "java/lang/invoke/MethodHandle" ∧ yX7_leastRagged.cls ≠ "java/lang/invoke/VarHandle" ∧ (parseMethodDescriptor yX7_leastRagged.desc).map (fun d => d.parameters.length) = some 0 := by decide +kernel
theorem kmw_leastRagged {X : JC} {Q : State → Prop} {nL k n pc : Nat} {lv : List (Nat × Value)} {st : List Value} {own : String} {cc : ByteArray} {ret : Option FieldType} {F LL mc ms ix : Nat} {D : va_G} {dA ad : Nat → Nat} {u : MS} {Post : Int32 → MS → Prop} (hX : JX X own cc nL ret F LL mc ms) (hK : KM D dA (jj_s X)) (hD : MD ad) (hlk : (Cond.methodLink own ix yX7_leastRagged) ∈ lw_all) (hF : 1 + 1 ≤ F) (hL : 8 + (6 + 11) + 21 ≤ LL) (hk : k ≤ mc) (hk2 : n ≤ ms) (hw : (st.map fun v => v.category).sum ≤ 8) (d : decode cc pc = .ok (.invokevirtual ix, 3)) (q : Nat) (hq : pc + 3 = q) (h : mw_leastRagged  u Post) (kk : ∀ (r : Int32) (u2 : MS), Post r u2 → JJ X (AM ad) Q nL (MW D dA ad u2) k n q lv (.int r :: st)) : JJ X (AM ad) Q nL (MW D dA ad u) k n pc lv (.ref (ad 0) :: st) :=
  jm_calli (na := 0) (As := []) hX hK (mmw_leastRagged (jj_l X) D dA ad hD  u Post h) hlk q1986 q1987 q129 q1988 hd_mw_leastRagged rfl rfl hw hF hL hk hk2 d q hq kk
/-- RaisedPressModel.wasted(I)I -/
def mw_wasted (x1 : Int32) (u : MS) (Post : Int32 → MS → Prop) : Prop :=
  mw_isLine x1 u (fun r2 u2 =>
    (r2 = 0 →
      mw_refuse (6 : Int32) u2 (fun r31 u31 =>
        Post r31 u31)) ∧
    (¬ r2 = 0 →
      vp_in x1 1300 ∧
      mw_gives ((jm_i u2 1 4) - (jm_i u2 9 x1.toNatClampNeg)) u2 (fun r22 u22 =>
        Post r22 u22)))
set_option maxHeartbeats 4000000 in
set_option maxRecDepth 100000 in
theorem mmw_wasted (l : Launch) (D : va_G) (dA ad : Nat → Nat) (hD : MD ad) (x1 : Int32) (u : MS) (Post : Int32 → MS → Prop) (h : mw_wasted x1 u Post) : Met l yX7_wasted (ws_ yX7_wasted cX7_wasted 2 (Option.some Jvm.ClassFile.FieldType.int)) (jm_rm 3 68) (jm_Pc D dA ad u [.int x1]) (va_Qi Post (jm_B D dA ad) (AM ad)) 0 0 (AM ad) := by
  refine jm_start [.int x1] [(0, .ref (ad 0)), (1, .int x1)] (by decide) (Nat.le_of_ble_eq_true rfl) rfl (fun X hX hK => ?_)
  unfold mw_wasted at h
  refine jj_aload_n hX dX7_wasted_0 0 rfl 1 rfl ?_
  refine jj_iload_n hX dX7_wasted_1 1 rfl 2 rfl ?_
  refine kmw_isLine hX hK hD q1900 (Nat.le_of_ble_eq_true rfl) (Nat.le_of_ble_eq_true rfl) (Nat.zero_le _) (Nat.zero_le _) (Nat.le_of_ble_eq_true rfl) dX7_wasted_2 5 rfl h (fun r2 u2 hb2 h => ?_)
  refine jj_if_eq hX dX7_wasted_5 28 8 (by decide) rfl (fun c5 => ?_) (fun c5 => ?_)
  · have h := h.1 c5
    refine jj_aload_n hX dX7_wasted_28 0 rfl 29 rfl ?_
    refine jj_bipush hX dX7_wasted_29 cb_6 31 rfl ?_
    refine kmw_refuse hX hK hD q1702 (Nat.le_of_ble_eq_true rfl) (Nat.le_of_ble_eq_true rfl) (Nat.zero_le _) (Nat.zero_le _) (Nat.le_of_ble_eq_true rfl) dX7_wasted_31 34 rfl h (fun r31 u31 h => ?_)
    exact jj_reti (post := Post) (u := u31) hX dX7_wasted_34 (Nat.le_refl 0) (Nat.le_refl 0) jm_hB h
  · have h := h.2 c5
    refine jj_aload_n hX dX7_wasted_8 0 rfl 9 rfl ?_
    refine jt_0 hX hK dX7_wasted_9 0 rfl dX7_wasted_10 q1484 13 rfl rfl ?_
    refine jj_iconst hX dX7_wasted_13 ci_4 14 rfl ?_
    refine jr_1 hX hK 4 kc_4 vi_1_4 dX7_wasted_14 15 rfl ?_
    refine jt_24 hX hK dX7_wasted_15 0 rfl dX7_wasted_16 q1508 19 rfl rfl ?_
    refine jj_iload_n hX dX7_wasted_19 1 rfl 20 rfl ?_
    obtain ⟨hi20, h⟩ := h
    refine jr_9 hX hK _ rfl hi20 dX7_wasted_20 21 rfl ?_
    refine jj_isub hX dX7_wasted_21 22 rfl ?_
    refine kmw_gives hX hK hD q1752 (Nat.le_of_ble_eq_true rfl) (Nat.le_of_ble_eq_true rfl) (Nat.zero_le _) (Nat.zero_le _) (Nat.le_of_ble_eq_true rfl) dX7_wasted_22 25 rfl h (fun r22 u22 h => ?_)
    refine jj_goto hX dX7_wasted_25 34 (by decide) ?_
    exact jj_reti (post := Post) (u := u22) hX dX7_wasted_34 (Nat.le_refl 0) (Nat.le_refl 0) jm_hB h
theorem hd_mw_wasted : yX7_wasted.cls = RX7 ∧ yX7_wasted.cls ≠ "java/lang/invoke/MethodHandle" ∧ yX7_wasted.cls ≠ "java/lang/invoke/VarHandle" ∧ (parseMethodDescriptor yX7_wasted.desc).map (fun d => d.parameters.length) = some 1 := by decide +kernel
theorem kmw_wasted {X : JC} {Q : State → Prop} {nL k n pc : Nat} {lv : List (Nat × Value)} {st : List Value} {own : String} {cc : ByteArray} {ret : Option FieldType} {F LL mc ms ix : Nat} {D : va_G} {dA ad : Nat → Nat} {x1 : Int32} {u : MS} {Post : Int32 → MS → Prop} (hX : JX X own cc nL ret F LL mc ms) (hK : KM D dA (jj_s X)) (hD : MD ad) (hlk : (Cond.methodLink own ix yX7_wasted) ∈ lw_all) (hF : 3 + 1 ≤ F) (hL : 8 + (2 + 11) + 68 ≤ LL) (hk : k ≤ mc) (hk2 : n ≤ ms) (hw : (st.map fun v => v.category).sum ≤ 8) (d : decode cc pc = .ok (.invokevirtual ix, 3)) (q : Nat) (hq : pc + 3 = q) (h : mw_wasted x1 u Post) (kk : ∀ (r : Int32) (u2 : MS), Post r u2 → JJ X (AM ad) Q nL (MW D dA ad u2) k n q lv (.int r :: st)) : JJ X (AM ad) Q nL (MW D dA ad u) k n pc lv (.int x1 :: .ref (ad 0) :: st) :=
  jm_calli (na := 1) (As := [.int x1]) hX hK (mmw_wasted (jj_l X) D dA ad hD x1 u Post h) hlk q1991 q1992 q129 q1993 hd_mw_wasted rfl rfl hw hF hL hk hk2 d q hq kk
def mw_frequent_L32_S (K20 : Int32 → Int32 → Int32 → MS → Prop) (Post : Int32 → MS → Prop) (x1 : Int32) (x2 : Int32) (x3 : Int32) (R : Int32 → Int32 → MS → Prop) (x4 : Int32) (x5 : Int32) (u : MS) : Prop :=
  ((jm_i u 1 7) ≤ x5 →
    (x2 < x4 →
      ∀ v109 : Int32, v109 = x3 + (1 : Int32) →
      K20 x3 x4 v109 u) ∧
    (¬ x2 < x4 →
      ∀ v109 : Int32, v109 = x3 + (1 : Int32) →
      K20 x1 x2 v109 u)) ∧
  (¬ (jm_i u 1 7) ≤ x5 →
    vp_in ((300 : Int32) + x5) 19800 ∧
    mw_isLetter (jm_i u 1 ((300 : Int32) + x5).toNatClampNeg) (fun r57 =>
      (r57 = 0 →
        ∀ v87 : Int32, v87 = (x4 + (0 : Int32)) →
        ∀ v89 : Int32, v89 = x5 + (1 : Int32) →
        R v87 v89 u) ∧
      (¬ r57 = 0 →
        vp_in ((300 : Int32) + x5) 19800 ∧
        mw_letterOf (jm_i u 1 ((300 : Int32) + x5).toNatClampNeg) (fun r74 =>
          (¬ r74 = x3 →
            ∀ v87 : Int32, v87 = (x4 + (0 : Int32)) →
            ∀ v89 : Int32, v89 = x5 + (1 : Int32) →
            R v87 v89 u) ∧
          (r74 = x3 →
            ∀ v87 : Int32, v87 = (x4 + (1 : Int32)) →
            ∀ v89 : Int32, v89 = x5 + (1 : Int32) →
            R v87 v89 u)))))
def mw_frequent_L32 (K20 : Int32 → Int32 → Int32 → MS → Prop) (Post : Int32 → MS → Prop) (x1 : Int32) (x2 : Int32) (x3 : Int32) : Nat → Int32 → Int32 → MS → Prop
  | 0 => fun _ _ _ => False
  | n + 1 => fun x4 x5 u => mw_frequent_L32_S K20 Post x1 x2 x3 (mw_frequent_L32 K20 Post x1 x2 x3 n) x4 x5 u
def mw_frequent_L20_S (Post : Int32 → MS → Prop) (R : Int32 → Int32 → Int32 → MS → Prop) (x1 : Int32) (x2 : Int32) (x3 : Int32) (u : MS) : Prop :=
  ((26 : Int32) < x3 →
    (¬ x1 = (-1 : Int32) →
      mw_gives x1 u (fun r131 u131 =>
        Post r131 u131)) ∧
    (x1 = (-1 : Int32) →
      mw_refuse (6 : Int32) u (fun r123 u123 =>
        Post r123 u123))) ∧
  (¬ (26 : Int32) < x3 →
    ∃ n, mw_frequent_L32 R Post x1 x2 x3 n (0 : Int32) (0 : Int32) u)
def mw_frequent_L20 (Post : Int32 → MS → Prop) : Nat → Int32 → Int32 → Int32 → MS → Prop
  | 0 => fun _ _ _ _ => False
  | n + 1 => fun x1 x2 x3 u => mw_frequent_L20_S Post (mw_frequent_L20 Post n) x1 x2 x3 u
/-- RaisedPressModel.frequent()I -/
def mw_frequent (u : MS) (Post : Int32 → MS → Prop) : Prop :=
  mw_isSet u (fun r1 u1 =>
    (¬ r1 = 0 →
      ∃ n, mw_frequent_L20 Post n (-1 : Int32) (0 : Int32) (1 : Int32) u1) ∧
    (r1 = 0 →
      mw_refuse (6 : Int32) u1 (fun r10 u10 =>
        Post r10 u10)))
set_option maxHeartbeats 4000000 in
set_option maxRecDepth 100000 in
theorem tmw_frequent_L32 {X : JC} {D : va_G} {dA ad : Nat → Nat} {K20 : Int32 → Int32 → Int32 → MS → Prop} {Post : Int32 → MS → Prop} {x1 : Int32} {x2 : Int32} {x3 : Int32} (hX : JX X yX7_frequent.cls cX7_frequent 6 (Option.some Jvm.ClassFile.FieldType.int) 2 40 0 0) (hK : KM D dA (jj_s X)) (hD : MD ad) (hK20 : ∀ (y1 : Int32) (y2 : Int32) (y3 : Int32) (u : MS), K20 y1 y2 y3 u → JJ X (AM ad) (jj_Q X (va_Qi Post (jm_B D dA ad) (AM ad)) 0 0 (AM ad)) 6 (MW D dA ad u) 0 0 20 [(0, .ref (ad 0)), (1, .int y1), (2, .int y2), (3, .int y3)] []) : ∀ (n : Nat) (x4 : Int32) (x5 : Int32) (u : MS), mw_frequent_L32 K20 Post x1 x2 x3 n x4 x5 u → JJ X (AM ad) (jj_Q X (va_Qi Post (jm_B D dA ad) (AM ad)) 0 0 (AM ad)) 6 (MW D dA ad u) 0 0 32 [(0, .ref (ad 0)), (1, .int x1), (2, .int x2), (3, .int x3), (4, .int x4), (5, .int x5)] [] := by
  intro n
  induction n with
  | zero =>
    intro x4 x5 u h
    exact h.elim
  | succ n ih =>
    intro x4 x5 u h
    have h : mw_frequent_L32_S K20 Post x1 x2 x3 (mw_frequent_L32 K20 Post x1 x2 x3 n) x4 x5 u := h
    unfold mw_frequent_L32_S at h
    refine jj_iload hX dX7_frequent_32 5 rfl 34 rfl ?_
    refine jt_0 hX hK dX7_frequent_34 0 rfl dX7_frequent_35 q1484 38 rfl rfl ?_
    refine jj_bipush hX dX7_frequent_38 cb_7 40 rfl ?_
    refine jr_1 hX hK 7 kc_7 vi_1_7 dX7_frequent_40 41 rfl ?_
    refine jj_icmp_ge hX dX7_frequent_41 95 44 (by decide) rfl (fun c41 => ?_) (fun c41 => ?_)
    · have h := h.1 c41
      refine jj_iload hX dX7_frequent_95 4 rfl 97 rfl ?_
      refine jj_iload_n hX dX7_frequent_97 2 rfl 98 rfl ?_
      refine jj_icmp_gt hX dX7_frequent_98 104 101 (by decide) rfl (fun c98 => ?_) (fun c98 => ?_)
      · have h := h.1 c98
        refine jj_iload hX dX7_frequent_104 4 rfl 106 rfl ?_
        refine jj_istore_n (lv2 := [(0, .ref (ad 0)), (2, .int x4), (3, .int x3)]) hX dX7_frequent_106 (Nat.le_of_ble_eq_true rfl) [1, 0, 3] rfl 107 rfl ?_
        refine jj_iload_n hX dX7_frequent_107 2 rfl 108 rfl ?_
        refine jj_istore_n (lv2 := [(0, .ref (ad 0)), (1, .int x3), (2, .int x4), (3, .int x3)]) hX dX7_frequent_108 (Nat.le_of_ble_eq_true rfl) [1, 0, 2, 3] rfl 109 rfl ?_
        obtain ⟨v109, e109⟩ : ∃ y : Int32, y = x3 + (1 : Int32) := ⟨_, rfl⟩
        have h := h v109 e109
        refine jj_iinc (v := v109) (lv2 := [(0, .ref (ad 0)), (1, .int x3), (2, .int x4), (3, .int v109)]) hX dX7_frequent_109 3 rfl (by rw [e109, ci_1]) (Nat.le_of_ble_eq_true rfl) [1, 2, 3, 0] rfl 112 rfl ?_
        refine jj_goto hX dX7_frequent_112 20 (by decide) ?_
        exact hK20 _ _ _ _ h
      · have h := h.2 c98
        refine jj_goto hX dX7_frequent_101 109 (by decide) ?_
        obtain ⟨v109, e109⟩ : ∃ y : Int32, y = x3 + (1 : Int32) := ⟨_, rfl⟩
        have h := h v109 e109
        refine jj_iinc (v := v109) (lv2 := [(0, .ref (ad 0)), (1, .int x1), (2, .int x2), (3, .int v109), (4, .int x4), (5, .int x5)]) hX dX7_frequent_109 3 rfl (by rw [e109, ci_1]) (Nat.le_of_ble_eq_true rfl) [1, 2, 3, 0, 4, 5] rfl 112 rfl ?_
        refine jj_goto hX dX7_frequent_112 20 (by decide) ?_
        refine jj_sub (lv2 := [(0, .ref (ad 0)), (1, .int x1), (2, .int x2), (3, .int v109)]) [0, 1, 2, 3] rfl ?_
        exact hK20 _ _ _ _ h
    · have h := h.2 c41
      refine jj_iload hX dX7_frequent_44 4 rfl 46 rfl ?_
      refine jt_0 hX hK dX7_frequent_46 0 rfl dX7_frequent_47 q1484 50 rfl rfl ?_
      refine jj_sipush hX dX7_frequent_50 cs_300 53 rfl ?_
      refine jj_iload hX dX7_frequent_53 5 rfl 55 rfl ?_
      refine jj_iadd hX dX7_frequent_55 56 rfl ?_
      obtain ⟨hi56, h⟩ := h
      refine jr_1 hX hK _ rfl hi56 dX7_frequent_56 57 rfl ?_
      refine kmw_isLetter hX MW.keeps q1771 (Nat.le_of_ble_eq_true rfl) (Nat.le_of_ble_eq_true rfl) (Nat.zero_le _) (Nat.zero_le _) (Nat.le_of_ble_eq_true rfl) dX7_frequent_57 60 rfl h (fun r57 hb57 h => ?_)
      refine jj_if_eq hX dX7_frequent_60 85 63 (by decide) rfl (fun c60 => ?_) (fun c60 => ?_)
      · have h := h.1 c60
        refine jj_iconst hX dX7_frequent_85 ci_0 86 rfl ?_
        refine jj_iadd hX dX7_frequent_86 87 rfl ?_
        refine jj_topi (fun v87 e87 => ?_)
        have h := h v87 e87
        refine jj_istore (lv2 := [(0, .ref (ad 0)), (1, .int x1), (2, .int x2), (3, .int x3), (4, .int v87), (5, .int x5)]) hX dX7_frequent_87 (Nat.le_of_ble_eq_true rfl) [1, 2, 3, 4, 0, 5] rfl 89 rfl ?_
        obtain ⟨v89, e89⟩ : ∃ y : Int32, y = x5 + (1 : Int32) := ⟨_, rfl⟩
        have h := h v89 e89
        refine jj_iinc (v := v89) (lv2 := [(0, .ref (ad 0)), (1, .int x1), (2, .int x2), (3, .int x3), (4, .int v87), (5, .int v89)]) hX dX7_frequent_89 5 rfl (by rw [e89, ci_1]) (Nat.le_of_ble_eq_true rfl) [1, 2, 3, 4, 5, 0] rfl 92 rfl ?_
        refine jj_goto hX dX7_frequent_92 32 (by decide) ?_
        exact ih _ _ _ h
      · have h := h.2 c60
        refine jt_0 hX hK dX7_frequent_63 0 rfl dX7_frequent_64 q1484 67 rfl rfl ?_
        refine jj_sipush hX dX7_frequent_67 cs_300 70 rfl ?_
        refine jj_iload hX dX7_frequent_70 5 rfl 72 rfl ?_
        refine jj_iadd hX dX7_frequent_72 73 rfl ?_
        obtain ⟨hi73, h⟩ := h
        refine jr_1 hX hK _ rfl hi73 dX7_frequent_73 74 rfl ?_
        refine kmw_letterOf hX MW.keeps q1807 (Nat.le_of_ble_eq_true rfl) (Nat.le_of_ble_eq_true rfl) (Nat.zero_le _) (Nat.zero_le _) (Nat.le_of_ble_eq_true rfl) dX7_frequent_74 77 rfl h (fun r74 h => ?_)
        refine jj_iload_n hX dX7_frequent_77 3 rfl 78 rfl ?_
        refine jj_icmp_ne hX dX7_frequent_78 85 81 (by decide) rfl (fun c78 => ?_) (fun c78 => ?_)
        · have h := h.1 c78
          refine jj_iconst hX dX7_frequent_85 ci_0 86 rfl ?_
          refine jj_iadd hX dX7_frequent_86 87 rfl ?_
          refine jj_topi (fun v87 e87 => ?_)
          have h := h v87 e87
          refine jj_istore (lv2 := [(0, .ref (ad 0)), (1, .int x1), (2, .int x2), (3, .int x3), (4, .int v87), (5, .int x5)]) hX dX7_frequent_87 (Nat.le_of_ble_eq_true rfl) [1, 2, 3, 4, 0, 5] rfl 89 rfl ?_
          obtain ⟨v89, e89⟩ : ∃ y : Int32, y = x5 + (1 : Int32) := ⟨_, rfl⟩
          have h := h v89 e89
          refine jj_iinc (v := v89) (lv2 := [(0, .ref (ad 0)), (1, .int x1), (2, .int x2), (3, .int x3), (4, .int v87), (5, .int v89)]) hX dX7_frequent_89 5 rfl (by rw [e89, ci_1]) (Nat.le_of_ble_eq_true rfl) [1, 2, 3, 4, 5, 0] rfl 92 rfl ?_
          refine jj_goto hX dX7_frequent_92 32 (by decide) ?_
          exact ih _ _ _ h
        · have h := h.2 c78
          refine jj_iconst hX dX7_frequent_81 ci_1 82 rfl ?_
          refine jj_goto hX dX7_frequent_82 86 (by decide) ?_
          refine jj_iadd hX dX7_frequent_86 87 rfl ?_
          refine jj_topi (fun v87 e87 => ?_)
          have h := h v87 e87
          refine jj_istore (lv2 := [(0, .ref (ad 0)), (1, .int x1), (2, .int x2), (3, .int x3), (4, .int v87), (5, .int x5)]) hX dX7_frequent_87 (Nat.le_of_ble_eq_true rfl) [1, 2, 3, 4, 0, 5] rfl 89 rfl ?_
          obtain ⟨v89, e89⟩ : ∃ y : Int32, y = x5 + (1 : Int32) := ⟨_, rfl⟩
          have h := h v89 e89
          refine jj_iinc (v := v89) (lv2 := [(0, .ref (ad 0)), (1, .int x1), (2, .int x2), (3, .int x3), (4, .int v87), (5, .int v89)]) hX dX7_frequent_89 5 rfl (by rw [e89, ci_1]) (Nat.le_of_ble_eq_true rfl) [1, 2, 3, 4, 5, 0] rfl 92 rfl ?_
          refine jj_goto hX dX7_frequent_92 32 (by decide) ?_
          exact ih _ _ _ h
set_option maxHeartbeats 4000000 in
set_option maxRecDepth 100000 in
theorem tmw_frequent_L20 {X : JC} {D : va_G} {dA ad : Nat → Nat} {Post : Int32 → MS → Prop} (hX : JX X yX7_frequent.cls cX7_frequent 6 (Option.some Jvm.ClassFile.FieldType.int) 2 40 0 0) (hK : KM D dA (jj_s X)) (hD : MD ad) : ∀ (n : Nat) (x1 : Int32) (x2 : Int32) (x3 : Int32) (u : MS), mw_frequent_L20 Post n x1 x2 x3 u → JJ X (AM ad) (jj_Q X (va_Qi Post (jm_B D dA ad) (AM ad)) 0 0 (AM ad)) 6 (MW D dA ad u) 0 0 20 [(0, .ref (ad 0)), (1, .int x1), (2, .int x2), (3, .int x3)] [] := by
  intro n
  induction n with
  | zero =>
    intro x1 x2 x3 u h
    exact h.elim
  | succ n ih =>
    intro x1 x2 x3 u h
    have h : mw_frequent_L20_S Post (mw_frequent_L20 Post n) x1 x2 x3 u := h
    unfold mw_frequent_L20_S at h
    refine jj_iload_n hX dX7_frequent_20 3 rfl 21 rfl ?_
    refine jj_bipush hX dX7_frequent_21 cb_26 23 rfl ?_
    refine jj_icmp_gt hX dX7_frequent_23 115 26 (by decide) rfl (fun c23 => ?_) (fun c23 => ?_)
    · have h := h.1 c23
      refine jj_iload_n hX dX7_frequent_115 1 rfl 116 rfl ?_
      refine jj_iconst hX dX7_frequent_116 ci_m1 117 rfl ?_
      refine jj_icmp_ne hX dX7_frequent_117 129 120 (by decide) rfl (fun c117 => ?_) (fun c117 => ?_)
      · have h := h.1 c117
        refine jj_aload_n hX dX7_frequent_129 0 rfl 130 rfl ?_
        refine jj_iload_n hX dX7_frequent_130 1 rfl 131 rfl ?_
        refine kmw_gives hX hK hD q1752 (Nat.le_of_ble_eq_true rfl) (Nat.le_of_ble_eq_true rfl) (Nat.zero_le _) (Nat.zero_le _) (Nat.le_of_ble_eq_true rfl) dX7_frequent_131 134 rfl h (fun r131 u131 h => ?_)
        exact jj_reti (post := Post) (u := u131) hX dX7_frequent_134 (Nat.le_refl 0) (Nat.le_refl 0) jm_hB h
      · have h := h.2 c117
        refine jj_aload_n hX dX7_frequent_120 0 rfl 121 rfl ?_
        refine jj_bipush hX dX7_frequent_121 cb_6 123 rfl ?_
        refine kmw_refuse hX hK hD q1702 (Nat.le_of_ble_eq_true rfl) (Nat.le_of_ble_eq_true rfl) (Nat.zero_le _) (Nat.zero_le _) (Nat.le_of_ble_eq_true rfl) dX7_frequent_123 126 rfl h (fun r123 u123 h => ?_)
        refine jj_goto hX dX7_frequent_126 134 (by decide) ?_
        exact jj_reti (post := Post) (u := u123) hX dX7_frequent_134 (Nat.le_refl 0) (Nat.le_refl 0) jm_hB h
    · have h := h.2 c23
      refine jj_iconst hX dX7_frequent_26 ci_0 27 rfl ?_
      refine jj_istore (lv2 := [(0, .ref (ad 0)), (1, .int x1), (2, .int x2), (3, .int x3), (4, .int (0 : Int32))]) hX dX7_frequent_27 (Nat.le_of_ble_eq_true rfl) [1, 2, 3, 4, 0] rfl 29 rfl ?_
      refine jj_iconst hX dX7_frequent_29 ci_0 30 rfl ?_
      refine jj_istore (lv2 := [(0, .ref (ad 0)), (1, .int x1), (2, .int x2), (3, .int x3), (4, .int (0 : Int32)), (5, .int (0 : Int32))]) hX dX7_frequent_30 (Nat.le_of_ble_eq_true rfl) [1, 2, 3, 4, 5, 0] rfl 32 rfl ?_
      obtain ⟨n9, h⟩ := h
      exact tmw_frequent_L32 hX hK hD ih n9 _ _ _ h
set_option maxHeartbeats 4000000 in
set_option maxRecDepth 100000 in
theorem mmw_frequent (l : Launch) (D : va_G) (dA ad : Nat → Nat) (hD : MD ad) (u : MS) (Post : Int32 → MS → Prop) (h : mw_frequent  u Post) : Met l yX7_frequent (ws_ yX7_frequent cX7_frequent 6 (Option.some Jvm.ClassFile.FieldType.int)) (jm_rm 2 40) (jm_Pc D dA ad u []) (va_Qi Post (jm_B D dA ad) (AM ad)) 0 0 (AM ad) := by
  refine jm_start [] [(0, .ref (ad 0))] (by decide) (Nat.le_of_ble_eq_true rfl) rfl (fun X hX hK => ?_)
  unfold mw_frequent at h
  refine jj_aload_n hX dX7_frequent_0 0 rfl 1 rfl ?_
  refine kmw_isSet hX hK hD q1864 (Nat.le_of_ble_eq_true rfl) (Nat.le_of_ble_eq_true rfl) (Nat.zero_le _) (Nat.zero_le _) (Nat.le_of_ble_eq_true rfl) dX7_frequent_1 4 rfl h (fun r1 u1 hb1 h => ?_)
  refine jj_if_ne hX dX7_frequent_4 14 7 (by decide) rfl (fun c4 => ?_) (fun c4 => ?_)
  · have h := h.1 c4
    refine jj_iconst hX dX7_frequent_14 ci_m1 15 rfl ?_
    refine jj_istore_n (lv2 := [(0, .ref (ad 0)), (1, .int (-1 : Int32))]) hX dX7_frequent_15 (Nat.le_of_ble_eq_true rfl) [1, 0] rfl 16 rfl ?_
    refine jj_iconst hX dX7_frequent_16 ci_0 17 rfl ?_
    refine jj_istore_n (lv2 := [(0, .ref (ad 0)), (1, .int (-1 : Int32)), (2, .int (0 : Int32))]) hX dX7_frequent_17 (Nat.le_of_ble_eq_true rfl) [1, 2, 0] rfl 18 rfl ?_
    refine jj_iconst hX dX7_frequent_18 ci_1 19 rfl ?_
    refine jj_istore_n (lv2 := [(0, .ref (ad 0)), (1, .int (-1 : Int32)), (2, .int (0 : Int32)), (3, .int (1 : Int32))]) hX dX7_frequent_19 (Nat.le_of_ble_eq_true rfl) [1, 2, 3, 0] rfl 20 rfl ?_
    obtain ⟨n9, h⟩ := h
    exact tmw_frequent_L20 hX hK hD n9 _ _ _ _ h
  · have h := h.2 c4
    refine jj_aload_n hX dX7_frequent_7 0 rfl 8 rfl ?_
    refine jj_bipush hX dX7_frequent_8 cb_6 10 rfl ?_
    refine kmw_refuse hX hK hD q1702 (Nat.le_of_ble_eq_true rfl) (Nat.le_of_ble_eq_true rfl) (Nat.zero_le _) (Nat.zero_le _) (Nat.le_of_ble_eq_true rfl) dX7_frequent_10 13 rfl h (fun r10 u10 h => ?_)
    exact jj_reti (post := Post) (u := u10) hX dX7_frequent_13 (Nat.le_refl 0) (Nat.le_refl 0) jm_hB h
theorem hd_mw_frequent : yX7_frequent.cls = RX7 ∧ yX7_frequent.cls ≠ "java/lang/invoke/MethodHandle" ∧ yX7_frequent.cls ≠ "java/lang/invoke/VarHandle" ∧ (parseMethodDescriptor yX7_frequent.desc).map (fun d => d.parameters.length) = some 0 := by decide +kernel
theorem kmw_frequent {X : JC} {Q : State → Prop} {nL k n pc : Nat} {lv : List (Nat × Value)} {st : List Value} {own : String} {cc : ByteArray} {ret : Option FieldType} {F LL mc ms ix : Nat} {D : va_G} {dA ad : Nat → Nat} {u : MS} {Post : Int32 → MS → Prop} (hX : JX X own cc nL ret F LL mc ms) (hK : KM D dA (jj_s X)) (hD : MD ad) (hlk : (Cond.methodLink own ix yX7_frequent) ∈ lw_all) (hF : 2 + 1 ≤ F) (hL : 8 + (6 + 11) + 40 ≤ LL) (hk : k ≤ mc) (hk2 : n ≤ ms) (hw : (st.map fun v => v.category).sum ≤ 8) (d : decode cc pc = .ok (.invokevirtual ix, 3)) (q : Nat) (hq : pc + 3 = q) (h : mw_frequent  u Post) (kk : ∀ (r : Int32) (u2 : MS), Post r u2 → JJ X (AM ad) Q nL (MW D dA ad u2) k n q lv (.int r :: st)) : JJ X (AM ad) Q nL (MW D dA ad u) k n pc lv (.ref (ad 0) :: st) :=
  jm_calli (na := 0) (As := []) hX hK (mmw_frequent (jj_l X) D dA ad hD  u Post h) hlk q1995 q1996 q129 q1997 hd_mw_frequent rfl rfl hw hF hL hk hk2 d q hq kk
def mw_signs_B120 (K33 : Int32 → Int32 → MS → Prop) (Post : Int32 → MS → Prop) (x1 : Int32) (x3 : Int32) (s0 : Int32) (u : MS) : Prop :=
  ∀ v122 : Int32, v122 = (s0 + (0 : Int32)) →
  ∀ v123 : Int32, v123 = x3 + (1 : Int32) →
  K33 v122 v123 u
def mw_signs_B98 (K33 : Int32 → Int32 → MS → Prop) (Post : Int32 → MS → Prop) (x1 : Int32) (x3 : Int32) (x4 : Int32) (x5 : Int32) (s0 : Int32) (u : MS) : Prop :=
  (¬ x1 = (1 : Int32) →
    mw_signs_B120 K33 Post x1 x3 s0 u) ∧
  (x1 = (1 : Int32) →
    mw_isDigit0 x4 (fun r105 =>
      (r105 = 0 →
        mw_signs_B120 K33 Post x1 x3 s0 u) ∧
      (¬ r105 = 0 →
        (x5 = 0 →
          mw_signs_B120 K33 Post x1 x3 s0 u) ∧
        (¬ x5 = 0 →
          ∀ v122 : Int32, v122 = (s0 + (1 : Int32)) →
          ∀ v123 : Int32, v123 = x3 + (1 : Int32) →
          K33 v122 v123 u))))
def mw_signs_B83 (K33 : Int32 → Int32 → MS → Prop) (Post : Int32 → MS → Prop) (x1 : Int32) (x2 : Int32) (x3 : Int32) (x4 : Int32) (s0 : Int32) (u : MS) : Prop :=
  (¬ x1 = 0 →
    mw_signs_B98 K33 Post x1 x3 x4 s0 x2 u) ∧
  (x1 = 0 →
    mw_isGreat x4 (fun r92 =>
      (¬ r92 = 0 →
        ∀ v122 : Int32, v122 = (x2 + (1 : Int32)) →
        ∀ v123 : Int32, v123 = x3 + (1 : Int32) →
        K33 v122 v123 u) ∧
      (r92 = 0 →
        mw_signs_B98 K33 Post x1 x3 x4 s0 x2 u)))
def mw_signs_L33_S (Post : Int32 → MS → Prop) (x1 : Int32) (R : Int32 → Int32 → MS → Prop) (x2 : Int32) (x3 : Int32) (u : MS) : Prop :=
  ((jm_i u 1 7) ≤ x3 →
    mw_gives x2 u (fun r131 u131 =>
      Post r131 u131)) ∧
  (¬ (jm_i u 1 7) ≤ x3 →
    vp_in ((300 : Int32) + x3) 19800 ∧
    ∀ v54 : Int32, v54 = (jm_i u 1 ((300 : Int32) + x3).toNatClampNeg) →
    (x3 = 0 →
      mw_signs_B83 R Post x1 x2 x3 v54 (1 : Int32) u) ∧
    (¬ x3 = 0 →
      vp_in (((300 : Int32) + x3) - (1 : Int32)) 19800 ∧
      mw_isDigit0 (jm_i u 1 (((300 : Int32) + x3) - (1 : Int32)).toNatClampNeg) (fun r72 =>
        (¬ r72 = 0 →
          mw_signs_B83 R Post x1 x2 x3 v54 (0 : Int32) u) ∧
        (r72 = 0 →
          mw_signs_B83 R Post x1 x2 x3 v54 (1 : Int32) u))))
def mw_signs_L33 (Post : Int32 → MS → Prop) (x1 : Int32) : Nat → Int32 → Int32 → MS → Prop
  | 0 => fun _ _ _ => False
  | n + 1 => fun x2 x3 u => mw_signs_L33_S Post x1 (mw_signs_L33 Post x1 n) x2 x3 u
/-- RaisedPressModel.signs(I)I -/
def mw_signs (x1 : Int32) (u : MS) (Post : Int32 → MS → Prop) : Prop :=
  (x1 < 0 →
    mw_refuse (1 : Int32) u (fun r11 u11 =>
      Post r11 u11)) ∧
  (¬ x1 < 0 →
    (x1 ≤ (1 : Int32) →
      mw_isSet u (fun r16 u16 =>
        (¬ r16 = 0 →
          ∃ n, mw_signs_L33 Post x1 n (0 : Int32) (0 : Int32) u16) ∧
        (r16 = 0 →
          mw_refuse (6 : Int32) u16 (fun r25 u25 =>
            Post r25 u25)))) ∧
    (¬ x1 ≤ (1 : Int32) →
      mw_refuse (1 : Int32) u (fun r11 u11 =>
        Post r11 u11)))
set_option maxHeartbeats 4000000 in
set_option maxRecDepth 100000 in
theorem tmw_signs_B120 {X : JC} {D : va_G} {dA ad : Nat → Nat} {K33 : Int32 → Int32 → MS → Prop} {Post : Int32 → MS → Prop} {x1 : Int32} {x3 : Int32} {s0 : Int32} {u : MS} (hX : JX X yX7_signs.cls cX7_signs 6 (Option.some Jvm.ClassFile.FieldType.int) 1 21 0 0) (hK : KM D dA (jj_s X)) (hD : MD ad) (hK33 : ∀ (y2 : Int32) (y3 : Int32) (u : MS), K33 y2 y3 u → JJ X (AM ad) (jj_Q X (va_Qi Post (jm_B D dA ad) (AM ad)) 0 0 (AM ad)) 6 (MW D dA ad u) 0 0 33 [(0, .ref (ad 0)), (1, .int x1), (2, .int y2), (3, .int y3)] []) (h : mw_signs_B120 K33 Post x1 x3 s0 u) : JJ X (AM ad) (jj_Q X (va_Qi Post (jm_B D dA ad) (AM ad)) 0 0 (AM ad)) 6 (MW D dA ad u) 0 0 120 [(0, .ref (ad 0)), (1, .int x1), (3, .int x3)] [.int s0] := by
  unfold mw_signs_B120 at h
  refine jj_iconst hX dX7_signs_120 ci_0 121 rfl ?_
  refine jj_iadd hX dX7_signs_121 122 rfl ?_
  refine jj_topi (fun v122 e122 => ?_)
  have h := h v122 e122
  refine jj_istore_n (lv2 := [(0, .ref (ad 0)), (1, .int x1), (2, .int v122), (3, .int x3)]) hX dX7_signs_122 (Nat.le_of_ble_eq_true rfl) [1, 2, 0, 3] rfl 123 rfl ?_
  obtain ⟨v123, e123⟩ : ∃ y : Int32, y = x3 + (1 : Int32) := ⟨_, rfl⟩
  have h := h v123 e123
  refine jj_iinc (v := v123) (lv2 := [(0, .ref (ad 0)), (1, .int x1), (2, .int v122), (3, .int v123)]) hX dX7_signs_123 3 rfl (by rw [e123, ci_1]) (Nat.le_of_ble_eq_true rfl) [1, 2, 3, 0] rfl 126 rfl ?_
  refine jj_goto hX dX7_signs_126 33 (by decide) ?_
  exact hK33 _ _ _ h
set_option maxHeartbeats 4000000 in
set_option maxRecDepth 100000 in
theorem tmw_signs_B98 {X : JC} {D : va_G} {dA ad : Nat → Nat} {K33 : Int32 → Int32 → MS → Prop} {Post : Int32 → MS → Prop} {x1 : Int32} {x3 : Int32} {x4 : Int32} {x5 : Int32} {s0 : Int32} {u : MS} (hX : JX X yX7_signs.cls cX7_signs 6 (Option.some Jvm.ClassFile.FieldType.int) 1 21 0 0) (hK : KM D dA (jj_s X)) (hD : MD ad) (hK33 : ∀ (y2 : Int32) (y3 : Int32) (u : MS), K33 y2 y3 u → JJ X (AM ad) (jj_Q X (va_Qi Post (jm_B D dA ad) (AM ad)) 0 0 (AM ad)) 6 (MW D dA ad u) 0 0 33 [(0, .ref (ad 0)), (1, .int x1), (2, .int y2), (3, .int y3)] []) (h : mw_signs_B98 K33 Post x1 x3 x4 x5 s0 u) : JJ X (AM ad) (jj_Q X (va_Qi Post (jm_B D dA ad) (AM ad)) 0 0 (AM ad)) 6 (MW D dA ad u) 0 0 98 [(0, .ref (ad 0)), (1, .int x1), (3, .int x3), (4, .int x4), (5, .int x5)] [.int s0] := by
  unfold mw_signs_B98 at h
  refine jj_iload_n hX dX7_signs_98 1 rfl 99 rfl ?_
  refine jj_iconst hX dX7_signs_99 ci_1 100 rfl ?_
  refine jj_icmp_ne hX dX7_signs_100 120 103 (by decide) rfl (fun c100 => ?_) (fun c100 => ?_)
  · have h := h.1 c100
    refine jj_sub (lv2 := [(0, .ref (ad 0)), (1, .int x1), (3, .int x3)]) [0, 1, 2] rfl ?_
    exact tmw_signs_B120 hX hK hD hK33 h
  · have h := h.2 c100
    refine jj_iload hX dX7_signs_103 3 rfl 105 rfl ?_
    refine kmw_isDigit0 hX MW.keeps q1777 (Nat.le_of_ble_eq_true rfl) (Nat.le_of_ble_eq_true rfl) (Nat.zero_le _) (Nat.zero_le _) (Nat.le_of_ble_eq_true rfl) dX7_signs_105 108 rfl h (fun r105 hb105 h => ?_)
    refine jj_if_eq hX dX7_signs_108 120 111 (by decide) rfl (fun c108 => ?_) (fun c108 => ?_)
    · have h := h.1 c108
      refine jj_sub (lv2 := [(0, .ref (ad 0)), (1, .int x1), (3, .int x3)]) [0, 1, 2] rfl ?_
      exact tmw_signs_B120 hX hK hD hK33 h
    · have h := h.2 c108
      refine jj_iload hX dX7_signs_111 4 rfl 113 rfl ?_
      refine jj_if_eq hX dX7_signs_113 120 116 (by decide) rfl (fun c113 => ?_) (fun c113 => ?_)
      · have h := h.1 c113
        refine jj_sub (lv2 := [(0, .ref (ad 0)), (1, .int x1), (3, .int x3)]) [0, 1, 2] rfl ?_
        exact tmw_signs_B120 hX hK hD hK33 h
      · have h := h.2 c113
        refine jj_iconst hX dX7_signs_116 ci_1 117 rfl ?_
        refine jj_goto hX dX7_signs_117 121 (by decide) ?_
        refine jj_iadd hX dX7_signs_121 122 rfl ?_
        refine jj_topi (fun v122 e122 => ?_)
        have h := h v122 e122
        refine jj_istore_n (lv2 := [(0, .ref (ad 0)), (1, .int x1), (2, .int v122), (3, .int x3)]) hX dX7_signs_122 (Nat.le_of_ble_eq_true rfl) [1, 2, 0, 3] rfl 123 rfl ?_
        obtain ⟨v123, e123⟩ : ∃ y : Int32, y = x3 + (1 : Int32) := ⟨_, rfl⟩
        have h := h v123 e123
        refine jj_iinc (v := v123) (lv2 := [(0, .ref (ad 0)), (1, .int x1), (2, .int v122), (3, .int v123)]) hX dX7_signs_123 3 rfl (by rw [e123, ci_1]) (Nat.le_of_ble_eq_true rfl) [1, 2, 3, 0] rfl 126 rfl ?_
        refine jj_goto hX dX7_signs_126 33 (by decide) ?_
        exact hK33 _ _ _ h
set_option maxHeartbeats 4000000 in
set_option maxRecDepth 100000 in
theorem tmw_signs_B83 {X : JC} {D : va_G} {dA ad : Nat → Nat} {K33 : Int32 → Int32 → MS → Prop} {Post : Int32 → MS → Prop} {x1 : Int32} {x2 : Int32} {x3 : Int32} {x4 : Int32} {s0 : Int32} {u : MS} (hX : JX X yX7_signs.cls cX7_signs 6 (Option.some Jvm.ClassFile.FieldType.int) 1 21 0 0) (hK : KM D dA (jj_s X)) (hD : MD ad) (hK33 : ∀ (y2 : Int32) (y3 : Int32) (u : MS), K33 y2 y3 u → JJ X (AM ad) (jj_Q X (va_Qi Post (jm_B D dA ad) (AM ad)) 0 0 (AM ad)) 6 (MW D dA ad u) 0 0 33 [(0, .ref (ad 0)), (1, .int x1), (2, .int y2), (3, .int y3)] []) (h : mw_signs_B83 K33 Post x1 x2 x3 x4 s0 u) : JJ X (AM ad) (jj_Q X (va_Qi Post (jm_B D dA ad) (AM ad)) 0 0 (AM ad)) 6 (MW D dA ad u) 0 0 83 [(0, .ref (ad 0)), (1, .int x1), (2, .int x2), (3, .int x3), (4, .int x4)] [.int s0] := by
  unfold mw_signs_B83 at h
  refine jj_istore (lv2 := [(0, .ref (ad 0)), (1, .int x1), (2, .int x2), (3, .int x3), (4, .int x4), (5, .int s0)]) hX dX7_signs_83 (Nat.le_of_ble_eq_true rfl) [1, 2, 3, 4, 5, 0] rfl 85 rfl ?_
  refine jj_iload_n hX dX7_signs_85 2 rfl 86 rfl ?_
  refine jj_iload_n hX dX7_signs_86 1 rfl 87 rfl ?_
  refine jj_if_ne hX dX7_signs_87 98 90 (by decide) rfl (fun c87 => ?_) (fun c87 => ?_)
  · have h := h.1 c87
    refine jj_sub (lv2 := [(0, .ref (ad 0)), (1, .int x1), (3, .int x3), (4, .int x4), (5, .int s0)]) [0, 1, 3, 4, 5] rfl ?_
    exact tmw_signs_B98 hX hK hD hK33 h
  · have h := h.2 c87
    refine jj_iload hX dX7_signs_90 4 rfl 92 rfl ?_
    refine kmw_isGreat hX MW.keeps q1774 (Nat.le_of_ble_eq_true rfl) (Nat.le_of_ble_eq_true rfl) (Nat.zero_le _) (Nat.zero_le _) (Nat.le_of_ble_eq_true rfl) dX7_signs_92 95 rfl h (fun r92 hb92 h => ?_)
    refine jj_if_ne hX dX7_signs_95 116 98 (by decide) rfl (fun c95 => ?_) (fun c95 => ?_)
    · have h := h.1 c95
      refine jj_iconst hX dX7_signs_116 ci_1 117 rfl ?_
      refine jj_goto hX dX7_signs_117 121 (by decide) ?_
      refine jj_iadd hX dX7_signs_121 122 rfl ?_
      refine jj_topi (fun v122 e122 => ?_)
      have h := h v122 e122
      refine jj_istore_n (lv2 := [(0, .ref (ad 0)), (1, .int x1), (2, .int v122), (3, .int x3)]) hX dX7_signs_122 (Nat.le_of_ble_eq_true rfl) [1, 2, 0, 3] rfl 123 rfl ?_
      obtain ⟨v123, e123⟩ : ∃ y : Int32, y = x3 + (1 : Int32) := ⟨_, rfl⟩
      have h := h v123 e123
      refine jj_iinc (v := v123) (lv2 := [(0, .ref (ad 0)), (1, .int x1), (2, .int v122), (3, .int v123)]) hX dX7_signs_123 3 rfl (by rw [e123, ci_1]) (Nat.le_of_ble_eq_true rfl) [1, 2, 3, 0] rfl 126 rfl ?_
      refine jj_goto hX dX7_signs_126 33 (by decide) ?_
      exact hK33 _ _ _ h
    · have h := h.2 c95
      refine jj_sub (lv2 := [(0, .ref (ad 0)), (1, .int x1), (3, .int x3), (4, .int x4), (5, .int s0)]) [0, 1, 3, 4, 5] rfl ?_
      exact tmw_signs_B98 hX hK hD hK33 h
set_option maxHeartbeats 4000000 in
set_option maxRecDepth 100000 in
theorem tmw_signs_L33 {X : JC} {D : va_G} {dA ad : Nat → Nat} {Post : Int32 → MS → Prop} {x1 : Int32} (hX : JX X yX7_signs.cls cX7_signs 6 (Option.some Jvm.ClassFile.FieldType.int) 1 21 0 0) (hK : KM D dA (jj_s X)) (hD : MD ad) : ∀ (n : Nat) (x2 : Int32) (x3 : Int32) (u : MS), mw_signs_L33 Post x1 n x2 x3 u → JJ X (AM ad) (jj_Q X (va_Qi Post (jm_B D dA ad) (AM ad)) 0 0 (AM ad)) 6 (MW D dA ad u) 0 0 33 [(0, .ref (ad 0)), (1, .int x1), (2, .int x2), (3, .int x3)] [] := by
  intro n
  induction n with
  | zero =>
    intro x2 x3 u h
    exact h.elim
  | succ n ih =>
    intro x2 x3 u h
    have h : mw_signs_L33_S Post x1 (mw_signs_L33 Post x1 n) x2 x3 u := h
    unfold mw_signs_L33_S at h
    refine jj_iload_n hX dX7_signs_33 3 rfl 34 rfl ?_
    refine jt_0 hX hK dX7_signs_34 0 rfl dX7_signs_35 q1484 38 rfl rfl ?_
    refine jj_bipush hX dX7_signs_38 cb_7 40 rfl ?_
    refine jr_1 hX hK 7 kc_7 vi_1_7 dX7_signs_40 41 rfl ?_
    refine jj_icmp_ge hX dX7_signs_41 129 44 (by decide) rfl (fun c41 => ?_) (fun c41 => ?_)
    · have h := h.1 c41
      refine jj_aload_n hX dX7_signs_129 0 rfl 130 rfl ?_
      refine jj_iload_n hX dX7_signs_130 2 rfl 131 rfl ?_
      refine kmw_gives hX hK hD q1752 (Nat.le_of_ble_eq_true rfl) (Nat.le_of_ble_eq_true rfl) (Nat.zero_le _) (Nat.zero_le _) (Nat.le_of_ble_eq_true rfl) dX7_signs_131 134 rfl h (fun r131 u131 h => ?_)
      exact jj_reti (post := Post) (u := u131) hX dX7_signs_134 (Nat.le_refl 0) (Nat.le_refl 0) jm_hB h
    · have h := h.2 c41
      refine jt_0 hX hK dX7_signs_44 0 rfl dX7_signs_45 q1484 48 rfl rfl ?_
      refine jj_sipush hX dX7_signs_48 cs_300 51 rfl ?_
      refine jj_iload_n hX dX7_signs_51 3 rfl 52 rfl ?_
      refine jj_iadd hX dX7_signs_52 53 rfl ?_
      obtain ⟨hi53, h⟩ := h
      refine jr_1 hX hK _ rfl hi53 dX7_signs_53 54 rfl ?_
      refine jj_topi (fun v54 e54 => ?_)
      have h := h v54 e54
      refine jj_istore (lv2 := [(0, .ref (ad 0)), (1, .int x1), (2, .int x2), (3, .int x3), (4, .int v54)]) hX dX7_signs_54 (Nat.le_of_ble_eq_true rfl) [1, 2, 3, 4, 0] rfl 56 rfl ?_
      refine jj_iload_n hX dX7_signs_56 3 rfl 57 rfl ?_
      refine jj_if_eq hX dX7_signs_57 78 60 (by decide) rfl (fun c57 => ?_) (fun c57 => ?_)
      · have h := h.1 c57
        refine jj_iconst hX dX7_signs_78 ci_1 79 rfl ?_
        refine jj_goto hX dX7_signs_79 83 (by decide) ?_
        exact tmw_signs_B83 hX hK hD ih h
      · have h := h.2 c57
        refine jt_0 hX hK dX7_signs_60 0 rfl dX7_signs_61 q1484 64 rfl rfl ?_
        refine jj_sipush hX dX7_signs_64 cs_300 67 rfl ?_
        refine jj_iload_n hX dX7_signs_67 3 rfl 68 rfl ?_
        refine jj_iadd hX dX7_signs_68 69 rfl ?_
        refine jj_iconst hX dX7_signs_69 ci_1 70 rfl ?_
        refine jj_isub hX dX7_signs_70 71 rfl ?_
        obtain ⟨hi71, h⟩ := h
        refine jr_1 hX hK _ rfl hi71 dX7_signs_71 72 rfl ?_
        refine kmw_isDigit0 hX MW.keeps q1777 (Nat.le_of_ble_eq_true rfl) (Nat.le_of_ble_eq_true rfl) (Nat.zero_le _) (Nat.zero_le _) (Nat.le_of_ble_eq_true rfl) dX7_signs_72 75 rfl h (fun r72 hb72 h => ?_)
        refine jj_if_ne hX dX7_signs_75 82 78 (by decide) rfl (fun c75 => ?_) (fun c75 => ?_)
        · have h := h.1 c75
          refine jj_iconst hX dX7_signs_82 ci_0 83 rfl ?_
          exact tmw_signs_B83 hX hK hD ih h
        · have h := h.2 c75
          refine jj_iconst hX dX7_signs_78 ci_1 79 rfl ?_
          refine jj_goto hX dX7_signs_79 83 (by decide) ?_
          exact tmw_signs_B83 hX hK hD ih h
set_option maxHeartbeats 4000000 in
set_option maxRecDepth 100000 in
theorem mmw_signs (l : Launch) (D : va_G) (dA ad : Nat → Nat) (hD : MD ad) (x1 : Int32) (u : MS) (Post : Int32 → MS → Prop) (h : mw_signs x1 u Post) : Met l yX7_signs (ws_ yX7_signs cX7_signs 6 (Option.some Jvm.ClassFile.FieldType.int)) (jm_rm 1 21) (jm_Pc D dA ad u [.int x1]) (va_Qi Post (jm_B D dA ad) (AM ad)) 0 0 (AM ad) := by
  refine jm_start [.int x1] [(0, .ref (ad 0)), (1, .int x1)] (by decide) (Nat.le_of_ble_eq_true rfl) rfl (fun X hX hK => ?_)
  unfold mw_signs at h
  refine jj_iload_n hX dX7_signs_0 1 rfl 1 rfl ?_
  refine jj_if_lt hX dX7_signs_1 9 4 (by decide) rfl (fun c1 => ?_) (fun c1 => ?_)
  · have h := h.1 c1
    refine jj_aload_n hX dX7_signs_9 0 rfl 10 rfl ?_
    refine jj_iconst hX dX7_signs_10 ci_1 11 rfl ?_
    refine kmw_refuse hX hK hD q1702 (Nat.le_of_ble_eq_true rfl) (Nat.le_of_ble_eq_true rfl) (Nat.zero_le _) (Nat.zero_le _) (Nat.le_of_ble_eq_true rfl) dX7_signs_11 14 rfl h (fun r11 u11 h => ?_)
    exact jj_reti (post := Post) (u := u11) hX dX7_signs_14 (Nat.le_refl 0) (Nat.le_refl 0) jm_hB h
  · have h := h.2 c1
    refine jj_iload_n hX dX7_signs_4 1 rfl 5 rfl ?_
    refine jj_iconst hX dX7_signs_5 ci_1 6 rfl ?_
    refine jj_icmp_le hX dX7_signs_6 15 9 (by decide) rfl (fun c6 => ?_) (fun c6 => ?_)
    · have h := h.1 c6
      refine jj_aload_n hX dX7_signs_15 0 rfl 16 rfl ?_
      refine kmw_isSet hX hK hD q1864 (Nat.le_of_ble_eq_true rfl) (Nat.le_of_ble_eq_true rfl) (Nat.zero_le _) (Nat.zero_le _) (Nat.le_of_ble_eq_true rfl) dX7_signs_16 19 rfl h (fun r16 u16 hb16 h => ?_)
      refine jj_if_ne hX dX7_signs_19 29 22 (by decide) rfl (fun c19 => ?_) (fun c19 => ?_)
      · have h := h.1 c19
        refine jj_iconst hX dX7_signs_29 ci_0 30 rfl ?_
        refine jj_istore_n (lv2 := [(0, .ref (ad 0)), (1, .int x1), (2, .int (0 : Int32))]) hX dX7_signs_30 (Nat.le_of_ble_eq_true rfl) [1, 2, 0] rfl 31 rfl ?_
        refine jj_iconst hX dX7_signs_31 ci_0 32 rfl ?_
        refine jj_istore_n (lv2 := [(0, .ref (ad 0)), (1, .int x1), (2, .int (0 : Int32)), (3, .int (0 : Int32))]) hX dX7_signs_32 (Nat.le_of_ble_eq_true rfl) [1, 2, 3, 0] rfl 33 rfl ?_
        obtain ⟨n9, h⟩ := h
        exact tmw_signs_L33 hX hK hD n9 _ _ _ h
      · have h := h.2 c19
        refine jj_aload_n hX dX7_signs_22 0 rfl 23 rfl ?_
        refine jj_bipush hX dX7_signs_23 cb_6 25 rfl ?_
        refine kmw_refuse hX hK hD q1702 (Nat.le_of_ble_eq_true rfl) (Nat.le_of_ble_eq_true rfl) (Nat.zero_le _) (Nat.zero_le _) (Nat.le_of_ble_eq_true rfl) dX7_signs_25 28 rfl h (fun r25 u25 h => ?_)
        exact jj_reti (post := Post) (u := u25) hX dX7_signs_28 (Nat.le_refl 0) (Nat.le_refl 0) jm_hB h
    · have h := h.2 c6
      refine jj_aload_n hX dX7_signs_9 0 rfl 10 rfl ?_
      refine jj_iconst hX dX7_signs_10 ci_1 11 rfl ?_
      refine kmw_refuse hX hK hD q1702 (Nat.le_of_ble_eq_true rfl) (Nat.le_of_ble_eq_true rfl) (Nat.zero_le _) (Nat.zero_le _) (Nat.le_of_ble_eq_true rfl) dX7_signs_11 14 rfl h (fun r11 u11 h => ?_)
      exact jj_reti (post := Post) (u := u11) hX dX7_signs_14 (Nat.le_refl 0) (Nat.le_refl 0) jm_hB h
theorem hd_mw_signs : yX7_signs.cls = RX7 ∧ yX7_signs.cls ≠ "java/lang/invoke/MethodHandle" ∧ yX7_signs.cls ≠ "java/lang/invoke/VarHandle" ∧ (parseMethodDescriptor yX7_signs.desc).map (fun d => d.parameters.length) = some 1 := by decide +kernel
theorem kmw_signs {X : JC} {Q : State → Prop} {nL k n pc : Nat} {lv : List (Nat × Value)} {st : List Value} {own : String} {cc : ByteArray} {ret : Option FieldType} {F LL mc ms ix : Nat} {D : va_G} {dA ad : Nat → Nat} {x1 : Int32} {u : MS} {Post : Int32 → MS → Prop} (hX : JX X own cc nL ret F LL mc ms) (hK : KM D dA (jj_s X)) (hD : MD ad) (hlk : (Cond.methodLink own ix yX7_signs) ∈ lw_all) (hF : 1 + 1 ≤ F) (hL : 8 + (6 + 11) + 21 ≤ LL) (hk : k ≤ mc) (hk2 : n ≤ ms) (hw : (st.map fun v => v.category).sum ≤ 8) (d : decode cc pc = .ok (.invokevirtual ix, 3)) (q : Nat) (hq : pc + 3 = q) (h : mw_signs x1 u Post) (kk : ∀ (r : Int32) (u2 : MS), Post r u2 → JJ X (AM ad) Q nL (MW D dA ad u2) k n q lv (.int r :: st)) : JJ X (AM ad) Q nL (MW D dA ad u) k n pc lv (.int x1 :: .ref (ad 0) :: st) :=
  jm_calli (na := 1) (As := [.int x1]) hX hK (mmw_signs (jj_l X) D dA ad hD x1 u Post h) hlk q1999 q2000 q129 q2001 hd_mw_signs rfl rfl hw hF hL hk hk2 d q hq kk
def mw_pieceOf_L31_S (Post : Int32 → MS → Prop) (x1 : Int32) (R : Int32 → MS → Prop) (x2 : Int32) (u : MS) : Prop :=
  ((jm_i u 1 9) ≤ x2 →
    mw_refuse (6 : Int32) u (fun r91 u91 =>
      Post r91 u91)) ∧
  (¬ (jm_i u 1 9) ≤ x2 →
    vp_in ((1850 : Int32) + x2) 19800 ∧
    (x1 < (jm_i u 1 ((1850 : Int32) + x2).toNatClampNeg) →
      ∀ v82 : Int32, v82 = x2 + (1 : Int32) →
      R v82 u) ∧
    (¬ x1 < (jm_i u 1 ((1850 : Int32) + x2).toNatClampNeg) →
      vp_in ((1850 : Int32) + x2) 19800 ∧
      mw_pieceMany x2 u (fun r69 u69 =>
        (((jm_i u 1 ((1850 : Int32) + x2).toNatClampNeg) + r69) ≤ x1 →
          ∀ v82 : Int32, v82 = x2 + (1 : Int32) →
          R v82 u69) ∧
        (¬ ((jm_i u 1 ((1850 : Int32) + x2).toNatClampNeg) + r69) ≤ x1 →
          mw_gives x2 u69 (fun r78 u78 =>
            Post r78 u78)))))
def mw_pieceOf_L31 (Post : Int32 → MS → Prop) (x1 : Int32) : Nat → Int32 → MS → Prop
  | 0 => fun _ _ => False
  | n + 1 => fun x2 u => mw_pieceOf_L31_S Post x1 (mw_pieceOf_L31 Post x1 n) x2 u
/-- RaisedPressModel.pieceOf(I)I -/
def mw_pieceOf (x1 : Int32) (u : MS) (Post : Int32 → MS → Prop) : Prop :=
  mw_isSet u (fun r1 u1 =>
    (r1 = 0 →
      mw_refuse (6 : Int32) u1 (fun r25 u25 =>
        Post r25 u25)) ∧
    (¬ r1 = 0 →
      (x1 < 0 →
        mw_refuse (6 : Int32) u1 (fun r25 u25 =>
          Post r25 u25)) ∧
      (¬ x1 < 0 →
        (x1 < (jm_i u1 1 8) →
          ∃ n, mw_pieceOf_L31 Post x1 n (0 : Int32) u1) ∧
        (¬ x1 < (jm_i u1 1 8) →
          mw_refuse (6 : Int32) u1 (fun r25 u25 =>
            Post r25 u25)))))
set_option maxHeartbeats 4000000 in
set_option maxRecDepth 100000 in
theorem tmw_pieceOf_L31 {X : JC} {D : va_G} {dA ad : Nat → Nat} {Post : Int32 → MS → Prop} {x1 : Int32} (hX : JX X yX7_pieceOf.cls cX7_pieceOf 3 (Option.some Jvm.ClassFile.FieldType.int) 1 21 0 0) (hK : KM D dA (jj_s X)) (hD : MD ad) : ∀ (n : Nat) (x2 : Int32) (u : MS), mw_pieceOf_L31 Post x1 n x2 u → JJ X (AM ad) (jj_Q X (va_Qi Post (jm_B D dA ad) (AM ad)) 0 0 (AM ad)) 3 (MW D dA ad u) 0 0 31 [(0, .ref (ad 0)), (1, .int x1), (2, .int x2)] [] := by
  intro n
  induction n with
  | zero =>
    intro x2 u h
    exact h.elim
  | succ n ih =>
    intro x2 u h
    have h : mw_pieceOf_L31_S Post x1 (mw_pieceOf_L31 Post x1 n) x2 u := h
    unfold mw_pieceOf_L31_S at h
    refine jj_iload_n hX dX7_pieceOf_31 2 rfl 32 rfl ?_
    refine jt_0 hX hK dX7_pieceOf_32 0 rfl dX7_pieceOf_33 q1484 36 rfl rfl ?_
    refine jj_bipush hX dX7_pieceOf_36 cb_9 38 rfl ?_
    refine jr_1 hX hK 9 kc_9 vi_1_9 dX7_pieceOf_38 39 rfl ?_
    refine jj_icmp_ge hX dX7_pieceOf_39 88 42 (by decide) rfl (fun c39 => ?_) (fun c39 => ?_)
    · have h := h.1 c39
      refine jj_aload_n hX dX7_pieceOf_88 0 rfl 89 rfl ?_
      refine jj_bipush hX dX7_pieceOf_89 cb_6 91 rfl ?_
      refine kmw_refuse hX hK hD q1702 (Nat.le_of_ble_eq_true rfl) (Nat.le_of_ble_eq_true rfl) (Nat.zero_le _) (Nat.zero_le _) (Nat.le_of_ble_eq_true rfl) dX7_pieceOf_91 94 rfl h (fun r91 u91 h => ?_)
      exact jj_reti (post := Post) (u := u91) hX dX7_pieceOf_94 (Nat.le_refl 0) (Nat.le_refl 0) jm_hB h
    · have h := h.2 c39
      refine jj_iload_n hX dX7_pieceOf_42 1 rfl 43 rfl ?_
      refine jt_0 hX hK dX7_pieceOf_43 0 rfl dX7_pieceOf_44 q1484 47 rfl rfl ?_
      refine jj_sipush hX dX7_pieceOf_47 cs_1850 50 rfl ?_
      refine jj_iload_n hX dX7_pieceOf_50 2 rfl 51 rfl ?_
      refine jj_iadd hX dX7_pieceOf_51 52 rfl ?_
      obtain ⟨hi52, h⟩ := h
      refine jr_1 hX hK _ rfl hi52 dX7_pieceOf_52 53 rfl ?_
      refine jj_icmp_lt hX dX7_pieceOf_53 82 56 (by decide) rfl (fun c53 => ?_) (fun c53 => ?_)
      · have h := h.1 c53
        obtain ⟨v82, e82⟩ : ∃ y : Int32, y = x2 + (1 : Int32) := ⟨_, rfl⟩
        have h := h v82 e82
        refine jj_iinc (v := v82) (lv2 := [(0, .ref (ad 0)), (1, .int x1), (2, .int v82)]) hX dX7_pieceOf_82 2 rfl (by rw [e82, ci_1]) (Nat.le_of_ble_eq_true rfl) [1, 2, 0] rfl 85 rfl ?_
        refine jj_goto hX dX7_pieceOf_85 31 (by decide) ?_
        exact ih _ _ h
      · have h := h.2 c53
        refine jj_iload_n hX dX7_pieceOf_56 1 rfl 57 rfl ?_
        refine jt_0 hX hK dX7_pieceOf_57 0 rfl dX7_pieceOf_58 q1484 61 rfl rfl ?_
        refine jj_sipush hX dX7_pieceOf_61 cs_1850 64 rfl ?_
        refine jj_iload_n hX dX7_pieceOf_64 2 rfl 65 rfl ?_
        refine jj_iadd hX dX7_pieceOf_65 66 rfl ?_
        obtain ⟨hi66, h⟩ := h
        refine jr_1 hX hK _ rfl hi66 dX7_pieceOf_66 67 rfl ?_
        refine jj_aload_n hX dX7_pieceOf_67 0 rfl 68 rfl ?_
        refine jj_iload_n hX dX7_pieceOf_68 2 rfl 69 rfl ?_
        refine kmw_pieceMany hX hK hD q1880 (Nat.le_of_ble_eq_true rfl) (Nat.le_of_ble_eq_true rfl) (Nat.zero_le _) (Nat.zero_le _) (Nat.le_of_ble_eq_true rfl) dX7_pieceOf_69 72 rfl h (fun r69 u69 h => ?_)
        refine jj_iadd hX dX7_pieceOf_72 73 rfl ?_
        refine jj_icmp_ge hX dX7_pieceOf_73 82 76 (by decide) rfl (fun c73 => ?_) (fun c73 => ?_)
        · have h := h.1 c73
          obtain ⟨v82, e82⟩ : ∃ y : Int32, y = x2 + (1 : Int32) := ⟨_, rfl⟩
          have h := h v82 e82
          refine jj_iinc (v := v82) (lv2 := [(0, .ref (ad 0)), (1, .int x1), (2, .int v82)]) hX dX7_pieceOf_82 2 rfl (by rw [e82, ci_1]) (Nat.le_of_ble_eq_true rfl) [1, 2, 0] rfl 85 rfl ?_
          refine jj_goto hX dX7_pieceOf_85 31 (by decide) ?_
          exact ih _ _ h
        · have h := h.2 c73
          refine jj_aload_n hX dX7_pieceOf_76 0 rfl 77 rfl ?_
          refine jj_iload_n hX dX7_pieceOf_77 2 rfl 78 rfl ?_
          refine kmw_gives hX hK hD q1752 (Nat.le_of_ble_eq_true rfl) (Nat.le_of_ble_eq_true rfl) (Nat.zero_le _) (Nat.zero_le _) (Nat.le_of_ble_eq_true rfl) dX7_pieceOf_78 81 rfl h (fun r78 u78 h => ?_)
          exact jj_reti (post := Post) (u := u78) hX dX7_pieceOf_81 (Nat.le_refl 0) (Nat.le_refl 0) jm_hB h
set_option maxHeartbeats 4000000 in
set_option maxRecDepth 100000 in
theorem mmw_pieceOf (l : Launch) (D : va_G) (dA ad : Nat → Nat) (hD : MD ad) (x1 : Int32) (u : MS) (Post : Int32 → MS → Prop) (h : mw_pieceOf x1 u Post) : Met l yX7_pieceOf (ws_ yX7_pieceOf cX7_pieceOf 3 (Option.some Jvm.ClassFile.FieldType.int)) (jm_rm 1 21) (jm_Pc D dA ad u [.int x1]) (va_Qi Post (jm_B D dA ad) (AM ad)) 0 0 (AM ad) := by
  refine jm_start [.int x1] [(0, .ref (ad 0)), (1, .int x1)] (by decide) (Nat.le_of_ble_eq_true rfl) rfl (fun X hX hK => ?_)
  unfold mw_pieceOf at h
  refine jj_aload_n hX dX7_pieceOf_0 0 rfl 1 rfl ?_
  refine kmw_isSet hX hK hD q1864 (Nat.le_of_ble_eq_true rfl) (Nat.le_of_ble_eq_true rfl) (Nat.zero_le _) (Nat.zero_le _) (Nat.le_of_ble_eq_true rfl) dX7_pieceOf_1 4 rfl h (fun r1 u1 hb1 h => ?_)
  refine jj_if_eq hX dX7_pieceOf_4 22 7 (by decide) rfl (fun c4 => ?_) (fun c4 => ?_)
  · have h := h.1 c4
    refine jj_aload_n hX dX7_pieceOf_22 0 rfl 23 rfl ?_
    refine jj_bipush hX dX7_pieceOf_23 cb_6 25 rfl ?_
    refine kmw_refuse hX hK hD q1702 (Nat.le_of_ble_eq_true rfl) (Nat.le_of_ble_eq_true rfl) (Nat.zero_le _) (Nat.zero_le _) (Nat.le_of_ble_eq_true rfl) dX7_pieceOf_25 28 rfl h (fun r25 u25 h => ?_)
    exact jj_reti (post := Post) (u := u25) hX dX7_pieceOf_28 (Nat.le_refl 0) (Nat.le_refl 0) jm_hB h
  · have h := h.2 c4
    refine jj_iload_n hX dX7_pieceOf_7 1 rfl 8 rfl ?_
    refine jj_if_lt hX dX7_pieceOf_8 22 11 (by decide) rfl (fun c8 => ?_) (fun c8 => ?_)
    · have h := h.1 c8
      refine jj_aload_n hX dX7_pieceOf_22 0 rfl 23 rfl ?_
      refine jj_bipush hX dX7_pieceOf_23 cb_6 25 rfl ?_
      refine kmw_refuse hX hK hD q1702 (Nat.le_of_ble_eq_true rfl) (Nat.le_of_ble_eq_true rfl) (Nat.zero_le _) (Nat.zero_le _) (Nat.le_of_ble_eq_true rfl) dX7_pieceOf_25 28 rfl h (fun r25 u25 h => ?_)
      exact jj_reti (post := Post) (u := u25) hX dX7_pieceOf_28 (Nat.le_refl 0) (Nat.le_refl 0) jm_hB h
    · have h := h.2 c8
      refine jj_iload_n hX dX7_pieceOf_11 1 rfl 12 rfl ?_
      refine jt_0 hX hK dX7_pieceOf_12 0 rfl dX7_pieceOf_13 q1484 16 rfl rfl ?_
      refine jj_bipush hX dX7_pieceOf_16 cb_8 18 rfl ?_
      refine jr_1 hX hK 8 kc_8 vi_1_8 dX7_pieceOf_18 19 rfl ?_
      refine jj_icmp_lt hX dX7_pieceOf_19 29 22 (by decide) rfl (fun c19 => ?_) (fun c19 => ?_)
      · have h := h.1 c19
        refine jj_iconst hX dX7_pieceOf_29 ci_0 30 rfl ?_
        refine jj_istore_n (lv2 := [(0, .ref (ad 0)), (1, .int x1), (2, .int (0 : Int32))]) hX dX7_pieceOf_30 (Nat.le_of_ble_eq_true rfl) [1, 2, 0] rfl 31 rfl ?_
        obtain ⟨n9, h⟩ := h
        exact tmw_pieceOf_L31 hX hK hD n9 _ _ h
      · have h := h.2 c19
        refine jj_aload_n hX dX7_pieceOf_22 0 rfl 23 rfl ?_
        refine jj_bipush hX dX7_pieceOf_23 cb_6 25 rfl ?_
        refine kmw_refuse hX hK hD q1702 (Nat.le_of_ble_eq_true rfl) (Nat.le_of_ble_eq_true rfl) (Nat.zero_le _) (Nat.zero_le _) (Nat.le_of_ble_eq_true rfl) dX7_pieceOf_25 28 rfl h (fun r25 u25 h => ?_)
        exact jj_reti (post := Post) (u := u25) hX dX7_pieceOf_28 (Nat.le_refl 0) (Nat.le_refl 0) jm_hB h
theorem hd_mw_pieceOf : yX7_pieceOf.cls = RX7 ∧ yX7_pieceOf.cls ≠ "java/lang/invoke/MethodHandle" ∧ yX7_pieceOf.cls ≠ "java/lang/invoke/VarHandle" ∧ (parseMethodDescriptor yX7_pieceOf.desc).map (fun d => d.parameters.length) = some 1 := by decide +kernel
theorem kmw_pieceOf {X : JC} {Q : State → Prop} {nL k n pc : Nat} {lv : List (Nat × Value)} {st : List Value} {own : String} {cc : ByteArray} {ret : Option FieldType} {F LL mc ms ix : Nat} {D : va_G} {dA ad : Nat → Nat} {x1 : Int32} {u : MS} {Post : Int32 → MS → Prop} (hX : JX X own cc nL ret F LL mc ms) (hK : KM D dA (jj_s X)) (hD : MD ad) (hlk : (Cond.methodLink own ix yX7_pieceOf) ∈ lw_all) (hF : 1 + 1 ≤ F) (hL : 8 + (3 + 11) + 21 ≤ LL) (hk : k ≤ mc) (hk2 : n ≤ ms) (hw : (st.map fun v => v.category).sum ≤ 8) (d : decode cc pc = .ok (.invokevirtual ix, 3)) (q : Nat) (hq : pc + 3 = q) (h : mw_pieceOf x1 u Post) (kk : ∀ (r : Int32) (u2 : MS), Post r u2 → JJ X (AM ad) Q nL (MW D dA ad u2) k n q lv (.int r :: st)) : JJ X (AM ad) Q nL (MW D dA ad u) k n pc lv (.int x1 :: .ref (ad 0) :: st) :=
  jm_calli (na := 1) (As := [.int x1]) hX hK (mmw_pieceOf (jj_l X) D dA ad hD x1 u Post h) hlk q2003 q2004 q129 q2005 hd_mw_pieceOf rfl rfl hw hF hL hk hk2 d q hq kk
def mw_plainOf_L18_S (Post : Int32 → MS → Prop) (R : Int32 → Int32 → MS → Prop) (x1 : Int32) (x2 : Int32) (u : MS) : Prop :=
  ((jm_i u 1 7) ≤ x2 →
    Post x1 u) ∧
  (¬ (jm_i u 1 7) ≤ x2 →
    vp_in ((300 : Int32) + x2) 19800 ∧
    mw_isLetter (jm_i u 1 ((300 : Int32) + x2).toNatClampNeg) (fun r39 =>
      (¬ r39 = 0 →
        vp_in ((300 : Int32) + x2) 19800 ∧
        mw_letterOf (jm_i u 1 ((300 : Int32) + x2).toNatClampNeg) (fun r59 =>
          mw_justOf r59 (jm_i u 1 6) u (fun r69 u69 =>
            (¬ r69 = (-1 : Int32) →
              mw_cellsOf r69 u69 (fun r83 u83 =>
                ∀ v87 : Int32, v87 = (x1 + r83) →
                ∀ v88 : Int32, v88 = x2 + (1 : Int32) →
                R v87 v88 u83)) ∧
            (r69 = (-1 : Int32) →
              Post (-1 : Int32) u69)))) ∧
      (r39 = 0 →
        ∀ v88 : Int32, v88 = x2 + (1 : Int32) →
        R x1 v88 u)))
def mw_plainOf_L18 (Post : Int32 → MS → Prop) : Nat → Int32 → Int32 → MS → Prop
  | 0 => fun _ _ _ => False
  | n + 1 => fun x1 x2 u => mw_plainOf_L18_S Post (mw_plainOf_L18 Post n) x1 x2 u
/-- RaisedPressModel.plainOf()I -/
def mw_plainOf (u : MS) (Post : Int32 → MS → Prop) : Prop :=
  ∀ v15 : Int32, v15 = ((jm_i u 1 8) - (jm_i u 1 11)) →
  ∃ n, mw_plainOf_L18 Post n v15 (0 : Int32) u
set_option maxHeartbeats 4000000 in
set_option maxRecDepth 100000 in
theorem tmw_plainOf_L18 {X : JC} {D : va_G} {dA ad : Nat → Nat} {Post : Int32 → MS → Prop} (hX : JX X yX7_plainOf.cls cX7_plainOf 4 (Option.some Jvm.ClassFile.FieldType.int) 2 45 0 0) (hK : KM D dA (jj_s X)) (hD : MD ad) : ∀ (n : Nat) (x1 : Int32) (x2 : Int32) (u : MS), mw_plainOf_L18 Post n x1 x2 u → JJ X (AM ad) (jj_Q X (va_Qi Post (jm_B D dA ad) (AM ad)) 0 0 (AM ad)) 4 (MW D dA ad u) 0 0 18 [(0, .ref (ad 0)), (1, .int x1), (2, .int x2)] [] := by
  intro n
  induction n with
  | zero =>
    intro x1 x2 u h
    exact h.elim
  | succ n ih =>
    intro x1 x2 u h
    have h : mw_plainOf_L18_S Post (mw_plainOf_L18 Post n) x1 x2 u := h
    unfold mw_plainOf_L18_S at h
    refine jj_iload_n hX dX7_plainOf_18 2 rfl 19 rfl ?_
    refine jt_0 hX hK dX7_plainOf_19 0 rfl dX7_plainOf_20 q1484 23 rfl rfl ?_
    refine jj_bipush hX dX7_plainOf_23 cb_7 25 rfl ?_
    refine jr_1 hX hK 7 kc_7 vi_1_7 dX7_plainOf_25 26 rfl ?_
    refine jj_icmp_ge hX dX7_plainOf_26 94 29 (by decide) rfl (fun c26 => ?_) (fun c26 => ?_)
    · have h := h.1 c26
      refine jj_iload_n hX dX7_plainOf_94 1 rfl 95 rfl ?_
      exact jj_reti (post := Post) (u := u) hX dX7_plainOf_95 (Nat.le_refl 0) (Nat.le_refl 0) jm_hB h
    · have h := h.2 c26
      refine jt_0 hX hK dX7_plainOf_29 0 rfl dX7_plainOf_30 q1484 33 rfl rfl ?_
      refine jj_sipush hX dX7_plainOf_33 cs_300 36 rfl ?_
      refine jj_iload_n hX dX7_plainOf_36 2 rfl 37 rfl ?_
      refine jj_iadd hX dX7_plainOf_37 38 rfl ?_
      obtain ⟨hi38, h⟩ := h
      refine jr_1 hX hK _ rfl hi38 dX7_plainOf_38 39 rfl ?_
      refine kmw_isLetter hX MW.keeps q1771 (Nat.le_of_ble_eq_true rfl) (Nat.le_of_ble_eq_true rfl) (Nat.zero_le _) (Nat.zero_le _) (Nat.le_of_ble_eq_true rfl) dX7_plainOf_39 42 rfl h (fun r39 hb39 h => ?_)
      refine jj_if_ne hX dX7_plainOf_42 48 45 (by decide) rfl (fun c42 => ?_) (fun c42 => ?_)
      · have h := h.1 c42
        refine jj_aload_n hX dX7_plainOf_48 0 rfl 49 rfl ?_
        refine jt_0 hX hK dX7_plainOf_49 0 rfl dX7_plainOf_50 q1484 53 rfl rfl ?_
        refine jj_sipush hX dX7_plainOf_53 cs_300 56 rfl ?_
        refine jj_iload_n hX dX7_plainOf_56 2 rfl 57 rfl ?_
        refine jj_iadd hX dX7_plainOf_57 58 rfl ?_
        obtain ⟨hi58, h⟩ := h
        refine jr_1 hX hK _ rfl hi58 dX7_plainOf_58 59 rfl ?_
        refine kmw_letterOf hX MW.keeps q1807 (Nat.le_of_ble_eq_true rfl) (Nat.le_of_ble_eq_true rfl) (Nat.zero_le _) (Nat.zero_le _) (Nat.le_of_ble_eq_true rfl) dX7_plainOf_59 62 rfl h (fun r59 h => ?_)
        refine jt_0 hX hK dX7_plainOf_62 0 rfl dX7_plainOf_63 q1484 66 rfl rfl ?_
        refine jj_bipush hX dX7_plainOf_66 cb_6 68 rfl ?_
        refine jr_1 hX hK 6 kc_6 vi_1_6 dX7_plainOf_68 69 rfl ?_
        refine kmw_justOf hX hK hD q1820 (Nat.le_of_ble_eq_true rfl) (Nat.le_of_ble_eq_true rfl) (Nat.zero_le _) (Nat.zero_le _) (Nat.le_of_ble_eq_true rfl) dX7_plainOf_69 72 rfl h (fun r69 u69 h => ?_)
        refine jj_istore_n (lv2 := [(0, .ref (ad 0)), (1, .int x1), (2, .int x2), (3, .int r69)]) hX dX7_plainOf_72 (Nat.le_of_ble_eq_true rfl) [1, 2, 3, 0] rfl 73 rfl ?_
        refine jj_iload_n hX dX7_plainOf_73 3 rfl 74 rfl ?_
        refine jj_iconst hX dX7_plainOf_74 ci_m1 75 rfl ?_
        refine jj_icmp_ne hX dX7_plainOf_75 80 78 (by decide) rfl (fun c75 => ?_) (fun c75 => ?_)
        · have h := h.1 c75
          refine jj_iload_n hX dX7_plainOf_80 1 rfl 81 rfl ?_
          refine jj_aload_n hX dX7_plainOf_81 0 rfl 82 rfl ?_
          refine jj_iload_n hX dX7_plainOf_82 3 rfl 83 rfl ?_
          refine kmw_cellsOf hX hK hD q1848 (Nat.le_of_ble_eq_true rfl) (Nat.le_of_ble_eq_true rfl) (Nat.zero_le _) (Nat.zero_le _) (Nat.le_of_ble_eq_true rfl) dX7_plainOf_83 86 rfl h (fun r83 u83 h => ?_)
          refine jj_iadd hX dX7_plainOf_86 87 rfl ?_
          refine jj_topi (fun v87 e87 => ?_)
          have h := h v87 e87
          refine jj_istore_n (lv2 := [(0, .ref (ad 0)), (1, .int v87), (2, .int x2)]) hX dX7_plainOf_87 (Nat.le_of_ble_eq_true rfl) [1, 0, 2] rfl 88 rfl ?_
          obtain ⟨v88, e88⟩ : ∃ y : Int32, y = x2 + (1 : Int32) := ⟨_, rfl⟩
          have h := h v88 e88
          refine jj_iinc (v := v88) (lv2 := [(0, .ref (ad 0)), (1, .int v87), (2, .int v88)]) hX dX7_plainOf_88 2 rfl (by rw [e88, ci_1]) (Nat.le_of_ble_eq_true rfl) [1, 2, 0] rfl 91 rfl ?_
          refine jj_goto hX dX7_plainOf_91 18 (by decide) ?_
          exact ih _ _ _ h
        · have h := h.2 c75
          refine jj_iconst hX dX7_plainOf_78 ci_m1 79 rfl ?_
          exact jj_reti (post := Post) (u := u69) hX dX7_plainOf_79 (Nat.le_refl 0) (Nat.le_refl 0) jm_hB h
      · have h := h.2 c42
        refine jj_goto hX dX7_plainOf_45 88 (by decide) ?_
        obtain ⟨v88, e88⟩ : ∃ y : Int32, y = x2 + (1 : Int32) := ⟨_, rfl⟩
        have h := h v88 e88
        refine jj_iinc (v := v88) (lv2 := [(0, .ref (ad 0)), (1, .int x1), (2, .int v88)]) hX dX7_plainOf_88 2 rfl (by rw [e88, ci_1]) (Nat.le_of_ble_eq_true rfl) [1, 2, 0] rfl 91 rfl ?_
        refine jj_goto hX dX7_plainOf_91 18 (by decide) ?_
        exact ih _ _ _ h
set_option maxHeartbeats 4000000 in
set_option maxRecDepth 100000 in
theorem mmw_plainOf (l : Launch) (D : va_G) (dA ad : Nat → Nat) (hD : MD ad) (u : MS) (Post : Int32 → MS → Prop) (h : mw_plainOf  u Post) : Met l yX7_plainOf (ws_ yX7_plainOf cX7_plainOf 4 (Option.some Jvm.ClassFile.FieldType.int)) (jm_rm 2 45) (jm_Pc D dA ad u []) (va_Qi Post (jm_B D dA ad) (AM ad)) 0 0 (AM ad) := by
  refine jm_start [] [(0, .ref (ad 0))] (by decide) (Nat.le_of_ble_eq_true rfl) rfl (fun X hX hK => ?_)
  unfold mw_plainOf at h
  refine jt_0 hX hK dX7_plainOf_0 0 rfl dX7_plainOf_1 q1484 4 rfl rfl ?_
  refine jj_bipush hX dX7_plainOf_4 cb_8 6 rfl ?_
  refine jr_1 hX hK 8 kc_8 vi_1_8 dX7_plainOf_6 7 rfl ?_
  refine jt_0 hX hK dX7_plainOf_7 0 rfl dX7_plainOf_8 q1484 11 rfl rfl ?_
  refine jj_bipush hX dX7_plainOf_11 cb_11 13 rfl ?_
  refine jr_1 hX hK 11 kc_11 vi_1_11 dX7_plainOf_13 14 rfl ?_
  refine jj_isub hX dX7_plainOf_14 15 rfl ?_
  refine jj_topi (fun v15 e15 => ?_)
  have h := h v15 e15
  refine jj_istore_n (lv2 := [(0, .ref (ad 0)), (1, .int v15)]) hX dX7_plainOf_15 (Nat.le_of_ble_eq_true rfl) [1, 0] rfl 16 rfl ?_
  refine jj_iconst hX dX7_plainOf_16 ci_0 17 rfl ?_
  refine jj_istore_n (lv2 := [(0, .ref (ad 0)), (1, .int v15), (2, .int (0 : Int32))]) hX dX7_plainOf_17 (Nat.le_of_ble_eq_true rfl) [1, 2, 0] rfl 18 rfl ?_
  obtain ⟨n9, h⟩ := h
  exact tmw_plainOf_L18 hX hK hD n9 _ _ _ h
theorem hd_mw_plainOf : yX7_plainOf.cls = RX7 ∧ yX7_plainOf.cls ≠ "java/lang/invoke/MethodHandle" ∧ yX7_plainOf.cls ≠ "java/lang/invoke/VarHandle" ∧ (parseMethodDescriptor yX7_plainOf.desc).map (fun d => d.parameters.length) = some 0 := by decide +kernel
theorem kmw_plainOf {X : JC} {Q : State → Prop} {nL k n pc : Nat} {lv : List (Nat × Value)} {st : List Value} {own : String} {cc : ByteArray} {ret : Option FieldType} {F LL mc ms ix : Nat} {D : va_G} {dA ad : Nat → Nat} {u : MS} {Post : Int32 → MS → Prop} (hX : JX X own cc nL ret F LL mc ms) (hK : KM D dA (jj_s X)) (hD : MD ad) (hlk : (Cond.methodLink own ix yX7_plainOf) ∈ lw_all) (hF : 2 + 1 ≤ F) (hL : 8 + (4 + 11) + 45 ≤ LL) (hk : k ≤ mc) (hk2 : n ≤ ms) (hw : (st.map fun v => v.category).sum ≤ 8) (d : decode cc pc = .ok (.invokevirtual ix, 3)) (q : Nat) (hq : pc + 3 = q) (h : mw_plainOf  u Post) (kk : ∀ (r : Int32) (u2 : MS), Post r u2 → JJ X (AM ad) Q nL (MW D dA ad u2) k n q lv (.int r :: st)) : JJ X (AM ad) Q nL (MW D dA ad u) k n pc lv (.ref (ad 0) :: st) :=
  jm_calli (na := 0) (As := []) hX hK (mmw_plainOf (jj_l X) D dA ad hD  u Post h) hlk q2012 qs100 q129 q2013 hd_mw_plainOf rfl rfl hw hF hL hk hk2 d q hq kk
/-- RaisedPressModel.saved()I -/
def mw_saved (u : MS) (Post : Int32 → MS → Prop) : Prop :=
  mw_isSet u (fun r1 u1 =>
    (¬ r1 = 0 →
      mw_plainOf u1 (fun r15 u15 =>
        (¬ r15 = (-1 : Int32) →
          mw_plainOf u15 (fun r33 u33 =>
            mw_gives (r33 - (jm_i u33 1 8)) u33 (fun r44 u44 =>
              Post r44 u44))) ∧
        (r15 = (-1 : Int32) →
          mw_refuse (7 : Int32) u15 (fun r25 u25 =>
            Post r25 u25)))) ∧
    (r1 = 0 →
      mw_refuse (6 : Int32) u1 (fun r10 u10 =>
        Post r10 u10)))
set_option maxHeartbeats 4000000 in
set_option maxRecDepth 100000 in
theorem mmw_saved (l : Launch) (D : va_G) (dA ad : Nat → Nat) (hD : MD ad) (u : MS) (Post : Int32 → MS → Prop) (h : mw_saved  u Post) : Met l yX7_saved (ws_ yX7_saved cX7_saved 1 (Option.some Jvm.ClassFile.FieldType.int)) (jm_rm 3 68) (jm_Pc D dA ad u []) (va_Qi Post (jm_B D dA ad) (AM ad)) 0 0 (AM ad) := by
  refine jm_start [] [(0, .ref (ad 0))] (by decide) (Nat.le_of_ble_eq_true rfl) rfl (fun X hX hK => ?_)
  unfold mw_saved at h
  refine jj_aload_n hX dX7_saved_0 0 rfl 1 rfl ?_
  refine kmw_isSet hX hK hD q1864 (Nat.le_of_ble_eq_true rfl) (Nat.le_of_ble_eq_true rfl) (Nat.zero_le _) (Nat.zero_le _) (Nat.le_of_ble_eq_true rfl) dX7_saved_1 4 rfl h (fun r1 u1 hb1 h => ?_)
  refine jj_if_ne hX dX7_saved_4 14 7 (by decide) rfl (fun c4 => ?_) (fun c4 => ?_)
  · have h := h.1 c4
    refine jj_aload_n hX dX7_saved_14 0 rfl 15 rfl ?_
    refine kmw_plainOf hX hK hD q2010 (Nat.le_of_ble_eq_true rfl) (Nat.le_of_ble_eq_true rfl) (Nat.zero_le _) (Nat.zero_le _) (Nat.le_of_ble_eq_true rfl) dX7_saved_15 18 rfl h (fun r15 u15 h => ?_)
    refine jj_iconst hX dX7_saved_18 ci_m1 19 rfl ?_
    refine jj_icmp_ne hX dX7_saved_19 31 22 (by decide) rfl (fun c19 => ?_) (fun c19 => ?_)
    · have h := h.1 c19
      refine jj_aload_n hX dX7_saved_31 0 rfl 32 rfl ?_
      refine jj_aload_n hX dX7_saved_32 0 rfl 33 rfl ?_
      refine kmw_plainOf hX hK hD q2010 (Nat.le_of_ble_eq_true rfl) (Nat.le_of_ble_eq_true rfl) (Nat.zero_le _) (Nat.zero_le _) (Nat.le_of_ble_eq_true rfl) dX7_saved_33 36 rfl h (fun r33 u33 h => ?_)
      refine jt_0 hX hK dX7_saved_36 0 rfl dX7_saved_37 q1484 40 rfl rfl ?_
      refine jj_bipush hX dX7_saved_40 cb_8 42 rfl ?_
      refine jr_1 hX hK 8 kc_8 vi_1_8 dX7_saved_42 43 rfl ?_
      refine jj_isub hX dX7_saved_43 44 rfl ?_
      refine kmw_gives hX hK hD q1752 (Nat.le_of_ble_eq_true rfl) (Nat.le_of_ble_eq_true rfl) (Nat.zero_le _) (Nat.zero_le _) (Nat.le_of_ble_eq_true rfl) dX7_saved_44 47 rfl h (fun r44 u44 h => ?_)
      exact jj_reti (post := Post) (u := u44) hX dX7_saved_47 (Nat.le_refl 0) (Nat.le_refl 0) jm_hB h
    · have h := h.2 c19
      refine jj_aload_n hX dX7_saved_22 0 rfl 23 rfl ?_
      refine jj_bipush hX dX7_saved_23 cb_7 25 rfl ?_
      refine kmw_refuse hX hK hD q1702 (Nat.le_of_ble_eq_true rfl) (Nat.le_of_ble_eq_true rfl) (Nat.zero_le _) (Nat.zero_le _) (Nat.le_of_ble_eq_true rfl) dX7_saved_25 28 rfl h (fun r25 u25 h => ?_)
      refine jj_goto hX dX7_saved_28 47 (by decide) ?_
      exact jj_reti (post := Post) (u := u25) hX dX7_saved_47 (Nat.le_refl 0) (Nat.le_refl 0) jm_hB h
  · have h := h.2 c4
    refine jj_aload_n hX dX7_saved_7 0 rfl 8 rfl ?_
    refine jj_bipush hX dX7_saved_8 cb_6 10 rfl ?_
    refine kmw_refuse hX hK hD q1702 (Nat.le_of_ble_eq_true rfl) (Nat.le_of_ble_eq_true rfl) (Nat.zero_le _) (Nat.zero_le _) (Nat.le_of_ble_eq_true rfl) dX7_saved_10 13 rfl h (fun r10 u10 h => ?_)
    exact jj_reti (post := Post) (u := u10) hX dX7_saved_13 (Nat.le_refl 0) (Nat.le_refl 0) jm_hB h
theorem hd_mw_saved : yX7_saved.cls = RX7 ∧ yX7_saved.cls ≠ "java/lang/invoke/MethodHandle" ∧ yX7_saved.cls ≠ "java/lang/invoke/VarHandle" ∧ (parseMethodDescriptor yX7_saved.desc).map (fun d => d.parameters.length) = some 0 := by decide +kernel
theorem kmw_saved {X : JC} {Q : State → Prop} {nL k n pc : Nat} {lv : List (Nat × Value)} {st : List Value} {own : String} {cc : ByteArray} {ret : Option FieldType} {F LL mc ms ix : Nat} {D : va_G} {dA ad : Nat → Nat} {u : MS} {Post : Int32 → MS → Prop} (hX : JX X own cc nL ret F LL mc ms) (hK : KM D dA (jj_s X)) (hD : MD ad) (hlk : (Cond.methodLink own ix yX7_saved) ∈ lw_all) (hF : 3 + 1 ≤ F) (hL : 8 + (1 + 11) + 68 ≤ LL) (hk : k ≤ mc) (hk2 : n ≤ ms) (hw : (st.map fun v => v.category).sum ≤ 8) (d : decode cc pc = .ok (.invokevirtual ix, 3)) (q : Nat) (hq : pc + 3 = q) (h : mw_saved  u Post) (kk : ∀ (r : Int32) (u2 : MS), Post r u2 → JJ X (AM ad) Q nL (MW D dA ad u2) k n q lv (.int r :: st)) : JJ X (AM ad) Q nL (MW D dA ad u) k n pc lv (.ref (ad 0) :: st) :=
  jm_calli (na := 0) (As := []) hX hK (mmw_saved (jj_l X) D dA ad hD  u Post h) hlk q2007 q2008 q129 q2009 hd_mw_saved rfl rfl hw hF hL hk hk2 d q hq kk
/-- RaisedPressModel.plain()I -/
def mw_plain (u : MS) (Post : Int32 → MS → Prop) : Prop :=
  mw_isSet u (fun r1 u1 =>
    (¬ r1 = 0 →
      mw_plainOf u1 (fun r15 u15 =>
        (¬ r15 = (-1 : Int32) →
          mw_plainOf u15 (fun r33 u33 =>
            mw_gives r33 u33 (fun r36 u36 =>
              Post r36 u36))) ∧
        (r15 = (-1 : Int32) →
          mw_refuse (7 : Int32) u15 (fun r25 u25 =>
            Post r25 u25)))) ∧
    (r1 = 0 →
      mw_refuse (6 : Int32) u1 (fun r10 u10 =>
        Post r10 u10)))
set_option maxHeartbeats 4000000 in
set_option maxRecDepth 100000 in
theorem mmw_plain (l : Launch) (D : va_G) (dA ad : Nat → Nat) (hD : MD ad) (u : MS) (Post : Int32 → MS → Prop) (h : mw_plain  u Post) : Met l yX7_plain (ws_ yX7_plain cX7_plain 1 (Option.some Jvm.ClassFile.FieldType.int)) (jm_rm 3 68) (jm_Pc D dA ad u []) (va_Qi Post (jm_B D dA ad) (AM ad)) 0 0 (AM ad) := by
  refine jm_start [] [(0, .ref (ad 0))] (by decide) (Nat.le_of_ble_eq_true rfl) rfl (fun X hX hK => ?_)
  unfold mw_plain at h
  refine jj_aload_n hX dX7_plain_0 0 rfl 1 rfl ?_
  refine kmw_isSet hX hK hD q1864 (Nat.le_of_ble_eq_true rfl) (Nat.le_of_ble_eq_true rfl) (Nat.zero_le _) (Nat.zero_le _) (Nat.le_of_ble_eq_true rfl) dX7_plain_1 4 rfl h (fun r1 u1 hb1 h => ?_)
  refine jj_if_ne hX dX7_plain_4 14 7 (by decide) rfl (fun c4 => ?_) (fun c4 => ?_)
  · have h := h.1 c4
    refine jj_aload_n hX dX7_plain_14 0 rfl 15 rfl ?_
    refine kmw_plainOf hX hK hD q2010 (Nat.le_of_ble_eq_true rfl) (Nat.le_of_ble_eq_true rfl) (Nat.zero_le _) (Nat.zero_le _) (Nat.le_of_ble_eq_true rfl) dX7_plain_15 18 rfl h (fun r15 u15 h => ?_)
    refine jj_iconst hX dX7_plain_18 ci_m1 19 rfl ?_
    refine jj_icmp_ne hX dX7_plain_19 31 22 (by decide) rfl (fun c19 => ?_) (fun c19 => ?_)
    · have h := h.1 c19
      refine jj_aload_n hX dX7_plain_31 0 rfl 32 rfl ?_
      refine jj_aload_n hX dX7_plain_32 0 rfl 33 rfl ?_
      refine kmw_plainOf hX hK hD q2010 (Nat.le_of_ble_eq_true rfl) (Nat.le_of_ble_eq_true rfl) (Nat.zero_le _) (Nat.zero_le _) (Nat.le_of_ble_eq_true rfl) dX7_plain_33 36 rfl h (fun r33 u33 h => ?_)
      refine kmw_gives hX hK hD q1752 (Nat.le_of_ble_eq_true rfl) (Nat.le_of_ble_eq_true rfl) (Nat.zero_le _) (Nat.zero_le _) (Nat.le_of_ble_eq_true rfl) dX7_plain_36 39 rfl h (fun r36 u36 h => ?_)
      exact jj_reti (post := Post) (u := u36) hX dX7_plain_39 (Nat.le_refl 0) (Nat.le_refl 0) jm_hB h
    · have h := h.2 c19
      refine jj_aload_n hX dX7_plain_22 0 rfl 23 rfl ?_
      refine jj_bipush hX dX7_plain_23 cb_7 25 rfl ?_
      refine kmw_refuse hX hK hD q1702 (Nat.le_of_ble_eq_true rfl) (Nat.le_of_ble_eq_true rfl) (Nat.zero_le _) (Nat.zero_le _) (Nat.le_of_ble_eq_true rfl) dX7_plain_25 28 rfl h (fun r25 u25 h => ?_)
      refine jj_goto hX dX7_plain_28 39 (by decide) ?_
      exact jj_reti (post := Post) (u := u25) hX dX7_plain_39 (Nat.le_refl 0) (Nat.le_refl 0) jm_hB h
  · have h := h.2 c4
    refine jj_aload_n hX dX7_plain_7 0 rfl 8 rfl ?_
    refine jj_bipush hX dX7_plain_8 cb_6 10 rfl ?_
    refine kmw_refuse hX hK hD q1702 (Nat.le_of_ble_eq_true rfl) (Nat.le_of_ble_eq_true rfl) (Nat.zero_le _) (Nat.zero_le _) (Nat.le_of_ble_eq_true rfl) dX7_plain_10 13 rfl h (fun r10 u10 h => ?_)
    exact jj_reti (post := Post) (u := u10) hX dX7_plain_13 (Nat.le_refl 0) (Nat.le_refl 0) jm_hB h
theorem hd_mw_plain : yX7_plain.cls = RX7 ∧ yX7_plain.cls ≠ "java/lang/invoke/MethodHandle" ∧ yX7_plain.cls ≠ "java/lang/invoke/VarHandle" ∧ (parseMethodDescriptor yX7_plain.desc).map (fun d => d.parameters.length) = some 0 := by decide +kernel
theorem kmw_plain {X : JC} {Q : State → Prop} {nL k n pc : Nat} {lv : List (Nat × Value)} {st : List Value} {own : String} {cc : ByteArray} {ret : Option FieldType} {F LL mc ms ix : Nat} {D : va_G} {dA ad : Nat → Nat} {u : MS} {Post : Int32 → MS → Prop} (hX : JX X own cc nL ret F LL mc ms) (hK : KM D dA (jj_s X)) (hD : MD ad) (hlk : (Cond.methodLink own ix yX7_plain) ∈ lw_all) (hF : 3 + 1 ≤ F) (hL : 8 + (1 + 11) + 68 ≤ LL) (hk : k ≤ mc) (hk2 : n ≤ ms) (hw : (st.map fun v => v.category).sum ≤ 8) (d : decode cc pc = .ok (.invokevirtual ix, 3)) (q : Nat) (hq : pc + 3 = q) (h : mw_plain  u Post) (kk : ∀ (r : Int32) (u2 : MS), Post r u2 → JJ X (AM ad) Q nL (MW D dA ad u2) k n q lv (.int r :: st)) : JJ X (AM ad) Q nL (MW D dA ad u) k n pc lv (.ref (ad 0) :: st) :=
  jm_calli (na := 0) (As := []) hX hK (mmw_plain (jj_l X) D dA ad hD  u Post h) hlk q2015 q2016 q129 q2017 hd_mw_plain rfl rfl hw hF hL hk hk2 d q hq kk
def mw_leastOf_B99 (K11 : Int32 → MS → Prop) (K28 : Int32 → MS → Prop) (Post : Int32 → MS → Prop) (x1 : Int32) (x2 : Int32) (x3 : Int32) (x4 : Int32) (s0 : Int32) (s1 : Int32) (s2 : Int32) (s3 : Int32) (u : MS) : Prop :=
  mw_ruleAt (0 : Int32) x4 (fun r112 =>
    vp_in r112 19800 ∧
    vp_in (x3 + (jm_i u 1 r112.toNatClampNeg)) 301 ∧
    jw_min s2 ((s1 + s0) + (jm_i u 13 (x3 + (jm_i u 1 r112.toNatClampNeg)).toNatClampNeg)) (fun r119 =>
      vp_in s3 301 ∧
      ∀ u122 : MS, u122 = jm_s u 13 s3.toNatClampNeg r119 →
      ∀ v123 : Int32, v123 = x4 + (1 : Int32) →
      K28 v123 u122))
def mw_leastOf_L28_S (K11 : Int32 → MS → Prop) (Post : Int32 → MS → Prop) (x1 : Int32) (x2 : Int32) (x3 : Int32) (R : Int32 → MS → Prop) (x4 : Int32) (u : MS) : Prop :=
  ((jm_i u 1 0) ≤ x4 →
    ∀ v129 : Int32, v129 = x3 + (-1 : Int32) →
    K11 v129 u) ∧
  (¬ (jm_i u 1 0) ≤ x4 →
    mw_isOut (jm_i u 1 6) x4 (fun r48 =>
      (¬ r48 = 0 →
        ∀ v123 : Int32, v123 = x4 + (1 : Int32) →
        R v123 u) ∧
      (r48 = 0 →
        mw_stands x4 x3 x1 x2 u (fun r60 u60 =>
          (r60 = 0 →
            ∀ v123 : Int32, v123 = x4 + (1 : Int32) →
            R v123 u60) ∧
          (¬ r60 = 0 →
            vp_in x3 301 ∧
            mw_cellsOf x4 u60 (fun r80 u80 =>
              mw_byteOf x3 u80 (fun r85 u85 =>
                mw_isGreat r85 (fun r88 =>
                  (r88 = 0 →
                    mw_leastOf_B99 K11 R Post x1 x2 x3 x4 (0 : Int32) r80 (jm_i u60 13 x3.toNatClampNeg) x3 u85) ∧
                  (¬ r88 = 0 →
                    mw_leastOf_B99 K11 R Post x1 x2 x3 x4 (1 : Int32) r80 (jm_i u60 13 x3.toNatClampNeg) x3 u85)))))))))
def mw_leastOf_L28 (K11 : Int32 → MS → Prop) (Post : Int32 → MS → Prop) (x1 : Int32) (x2 : Int32) (x3 : Int32) : Nat → Int32 → MS → Prop
  | 0 => fun _ _ => False
  | n + 1 => fun x4 u => mw_leastOf_L28_S K11 Post x1 x2 x3 (mw_leastOf_L28 K11 Post x1 x2 x3 n) x4 u
def mw_leastOf_L11_S (Post : Int32 → MS → Prop) (x1 : Int32) (x2 : Int32) (R : Int32 → MS → Prop) (x3 : Int32) (u : MS) : Prop :=
  (x3 < x1 →
    vp_in x1 301 ∧
    Post (jm_i u 13 x1.toNatClampNeg) u) ∧
  (¬ x3 < x1 →
    vp_in x3 301 ∧
    ∀ u24 : MS, u24 = jm_s u 13 x3.toNatClampNeg (1000000 : Int32) →
    ∃ n, mw_leastOf_L28 R Post x1 x2 x3 n (0 : Int32) u24)
def mw_leastOf_L11 (Post : Int32 → MS → Prop) (x1 : Int32) (x2 : Int32) : Nat → Int32 → MS → Prop
  | 0 => fun _ _ => False
  | n + 1 => fun x3 u => mw_leastOf_L11_S Post x1 x2 (mw_leastOf_L11 Post x1 x2 n) x3 u
/-- RaisedPressModel.leastOf(II)I -/
def mw_leastOf (x1 : Int32) (x2 : Int32) (u : MS) (Post : Int32 → MS → Prop) : Prop :=
  vp_in x2 301 ∧
  ∀ u6 : MS, u6 = jm_s u 13 x2.toNatClampNeg (0 : Int32) →
  ∀ v10 : Int32, v10 = (x2 - (1 : Int32)) →
  ∃ n, mw_leastOf_L11 Post x1 x2 n v10 u6
set_option maxHeartbeats 4000000 in
set_option maxRecDepth 100000 in
theorem tmw_leastOf_B99 {X : JC} {D : va_G} {dA ad : Nat → Nat} {K11 : Int32 → MS → Prop} {K28 : Int32 → MS → Prop} {Post : Int32 → MS → Prop} {x1 : Int32} {x2 : Int32} {x3 : Int32} {x4 : Int32} {s0 : Int32} {s1 : Int32} {s2 : Int32} {s3 : Int32} {u : MS} (hX : JX X yX7_leastOf.cls cX7_leastOf 5 (Option.some Jvm.ClassFile.FieldType.int) 3 66 0 0) (hK : KM D dA (jj_s X)) (hD : MD ad) (hK11 : ∀ (y3 : Int32) (u : MS), K11 y3 u → JJ X (AM ad) (jj_Q X (va_Qi Post (jm_B D dA ad) (AM ad)) 0 0 (AM ad)) 5 (MW D dA ad u) 0 0 11 [(0, .ref (ad 0)), (1, .int x1), (2, .int x2), (3, .int y3)] []) (hK28 : ∀ (y4 : Int32) (u : MS), K28 y4 u → JJ X (AM ad) (jj_Q X (va_Qi Post (jm_B D dA ad) (AM ad)) 0 0 (AM ad)) 5 (MW D dA ad u) 0 0 28 [(0, .ref (ad 0)), (1, .int x1), (2, .int x2), (3, .int x3), (4, .int y4)] []) (h : mw_leastOf_B99 K11 K28 Post x1 x2 x3 x4 s0 s1 s2 s3 u) : JJ X (AM ad) (jj_Q X (va_Qi Post (jm_B D dA ad) (AM ad)) 0 0 (AM ad)) 5 (MW D dA ad u) 0 0 99 [(0, .ref (ad 0)), (1, .int x1), (2, .int x2), (3, .int x3), (4, .int x4)] [.int s0, .int s1, .int s2, .int s3, .ref (ad 13)] := by
  unfold mw_leastOf_B99 at h
  refine jj_iadd hX dX7_leastOf_99 100 rfl ?_
  refine jt_31 hX hK dX7_leastOf_100 0 rfl dX7_leastOf_101 q1515 104 rfl rfl ?_
  refine jj_iload_n hX dX7_leastOf_104 3 rfl 105 rfl ?_
  refine jt_0 hX hK dX7_leastOf_105 0 rfl dX7_leastOf_106 q1484 109 rfl rfl ?_
  refine jj_iconst hX dX7_leastOf_109 ci_0 110 rfl ?_
  refine jj_iload hX dX7_leastOf_110 4 rfl 112 rfl ?_
  refine kmw_ruleAt hX MW.keeps q1721 (Nat.le_of_ble_eq_true rfl) (Nat.le_of_ble_eq_true rfl) (Nat.zero_le _) (Nat.zero_le _) (Nat.le_of_ble_eq_true rfl) dX7_leastOf_112 115 rfl h (fun r112 h => ?_)
  obtain ⟨hi115, h⟩ := h
  refine jr_1 hX hK _ rfl hi115 dX7_leastOf_115 116 rfl ?_
  refine jj_iadd hX dX7_leastOf_116 117 rfl ?_
  obtain ⟨hi117, h⟩ := h
  refine jr_13 hX hK _ rfl hi117 dX7_leastOf_117 118 rfl ?_
  refine jj_iadd hX dX7_leastOf_118 119 rfl ?_
  refine kjw_min hX MW.keeps q1701 (Nat.le_of_ble_eq_true rfl) (Nat.le_of_ble_eq_true rfl) (Nat.zero_le _) (Nat.zero_le _) (Nat.le_of_ble_eq_true rfl) dX7_leastOf_119 122 rfl h (fun r119 h => ?_)
  obtain ⟨hi122, h⟩ := h
  refine jw_13 hX hK hD _ rfl hi122 dX7_leastOf_122 123 rfl (fun u122 e122 => ?_)
  have h := h u122 e122
  obtain ⟨v123, e123⟩ : ∃ y : Int32, y = x4 + (1 : Int32) := ⟨_, rfl⟩
  have h := h v123 e123
  refine jj_iinc (v := v123) (lv2 := [(0, .ref (ad 0)), (1, .int x1), (2, .int x2), (3, .int x3), (4, .int v123)]) hX dX7_leastOf_123 4 rfl (by rw [e123, ci_1]) (Nat.le_of_ble_eq_true rfl) [1, 2, 3, 4, 0] rfl 126 rfl ?_
  refine jj_goto hX dX7_leastOf_126 28 (by decide) ?_
  exact hK28 _ _ h
set_option maxHeartbeats 4000000 in
set_option maxRecDepth 100000 in
theorem tmw_leastOf_L28 {X : JC} {D : va_G} {dA ad : Nat → Nat} {K11 : Int32 → MS → Prop} {Post : Int32 → MS → Prop} {x1 : Int32} {x2 : Int32} {x3 : Int32} (hX : JX X yX7_leastOf.cls cX7_leastOf 5 (Option.some Jvm.ClassFile.FieldType.int) 3 66 0 0) (hK : KM D dA (jj_s X)) (hD : MD ad) (hK11 : ∀ (y3 : Int32) (u : MS), K11 y3 u → JJ X (AM ad) (jj_Q X (va_Qi Post (jm_B D dA ad) (AM ad)) 0 0 (AM ad)) 5 (MW D dA ad u) 0 0 11 [(0, .ref (ad 0)), (1, .int x1), (2, .int x2), (3, .int y3)] []) : ∀ (n : Nat) (x4 : Int32) (u : MS), mw_leastOf_L28 K11 Post x1 x2 x3 n x4 u → JJ X (AM ad) (jj_Q X (va_Qi Post (jm_B D dA ad) (AM ad)) 0 0 (AM ad)) 5 (MW D dA ad u) 0 0 28 [(0, .ref (ad 0)), (1, .int x1), (2, .int x2), (3, .int x3), (4, .int x4)] [] := by
  intro n
  induction n with
  | zero =>
    intro x4 u h
    exact h.elim
  | succ n ih =>
    intro x4 u h
    have h : mw_leastOf_L28_S K11 Post x1 x2 x3 (mw_leastOf_L28 K11 Post x1 x2 x3 n) x4 u := h
    unfold mw_leastOf_L28_S at h
    refine jj_iload hX dX7_leastOf_28 4 rfl 30 rfl ?_
    refine jt_0 hX hK dX7_leastOf_30 0 rfl dX7_leastOf_31 q1484 34 rfl rfl ?_
    refine jj_iconst hX dX7_leastOf_34 ci_0 35 rfl ?_
    refine jr_1 hX hK 0 kc_0 vi_1_0 dX7_leastOf_35 36 rfl ?_
    refine jj_icmp_ge hX dX7_leastOf_36 129 39 (by decide) rfl (fun c36 => ?_) (fun c36 => ?_)
    · have h := h.1 c36
      obtain ⟨v129, e129⟩ : ∃ y : Int32, y = x3 + (-1 : Int32) := ⟨_, rfl⟩
      have h := h v129 e129
      refine jj_iinc (v := v129) (lv2 := [(0, .ref (ad 0)), (1, .int x1), (2, .int x2), (3, .int v129), (4, .int x4)]) hX dX7_leastOf_129 3 rfl (by rw [e129, ci_m1]) (Nat.le_of_ble_eq_true rfl) [1, 2, 3, 0, 4] rfl 132 rfl ?_
      refine jj_goto hX dX7_leastOf_132 11 (by decide) ?_
      refine jj_sub (lv2 := [(0, .ref (ad 0)), (1, .int x1), (2, .int x2), (3, .int v129)]) [0, 1, 2, 3] rfl ?_
      exact hK11 _ _ h
    · have h := h.2 c36
      refine jt_0 hX hK dX7_leastOf_39 0 rfl dX7_leastOf_40 q1484 43 rfl rfl ?_
      refine jj_bipush hX dX7_leastOf_43 cb_6 45 rfl ?_
      refine jr_1 hX hK 6 kc_6 vi_1_6 dX7_leastOf_45 46 rfl ?_
      refine jj_iload hX dX7_leastOf_46 4 rfl 48 rfl ?_
      refine kmw_isOut hX MW.keeps q1800 (Nat.le_of_ble_eq_true rfl) (Nat.le_of_ble_eq_true rfl) (Nat.zero_le _) (Nat.zero_le _) (Nat.le_of_ble_eq_true rfl) dX7_leastOf_48 51 rfl h (fun r48 hb48 h => ?_)
      refine jj_if_ne hX dX7_leastOf_51 123 54 (by decide) rfl (fun c51 => ?_) (fun c51 => ?_)
      · have h := h.1 c51
        obtain ⟨v123, e123⟩ : ∃ y : Int32, y = x4 + (1 : Int32) := ⟨_, rfl⟩
        have h := h v123 e123
        refine jj_iinc (v := v123) (lv2 := [(0, .ref (ad 0)), (1, .int x1), (2, .int x2), (3, .int x3), (4, .int v123)]) hX dX7_leastOf_123 4 rfl (by rw [e123, ci_1]) (Nat.le_of_ble_eq_true rfl) [1, 2, 3, 4, 0] rfl 126 rfl ?_
        refine jj_goto hX dX7_leastOf_126 28 (by decide) ?_
        exact ih _ _ h
      · have h := h.2 c51
        refine jj_aload_n hX dX7_leastOf_54 0 rfl 55 rfl ?_
        refine jj_iload hX dX7_leastOf_55 4 rfl 57 rfl ?_
        refine jj_iload_n hX dX7_leastOf_57 3 rfl 58 rfl ?_
        refine jj_iload_n hX dX7_leastOf_58 1 rfl 59 rfl ?_
        refine jj_iload_n hX dX7_leastOf_59 2 rfl 60 rfl ?_
        refine kmw_stands hX hK hD q1803 (Nat.le_of_ble_eq_true rfl) (Nat.le_of_ble_eq_true rfl) (Nat.zero_le _) (Nat.zero_le _) (Nat.le_of_ble_eq_true rfl) dX7_leastOf_60 63 rfl h (fun r60 u60 hb60 h => ?_)
        refine jj_if_eq hX dX7_leastOf_63 123 66 (by decide) rfl (fun c63 => ?_) (fun c63 => ?_)
        · have h := h.1 c63
          obtain ⟨v123, e123⟩ : ∃ y : Int32, y = x4 + (1 : Int32) := ⟨_, rfl⟩
          have h := h v123 e123
          refine jj_iinc (v := v123) (lv2 := [(0, .ref (ad 0)), (1, .int x1), (2, .int x2), (3, .int x3), (4, .int v123)]) hX dX7_leastOf_123 4 rfl (by rw [e123, ci_1]) (Nat.le_of_ble_eq_true rfl) [1, 2, 3, 4, 0] rfl 126 rfl ?_
          refine jj_goto hX dX7_leastOf_126 28 (by decide) ?_
          exact ih _ _ h
        · have h := h.2 c63
          refine jt_31 hX hK dX7_leastOf_66 0 rfl dX7_leastOf_67 q1515 70 rfl rfl ?_
          refine jj_iload_n hX dX7_leastOf_70 3 rfl 71 rfl ?_
          refine jt_31 hX hK dX7_leastOf_71 0 rfl dX7_leastOf_72 q1515 75 rfl rfl ?_
          refine jj_iload_n hX dX7_leastOf_75 3 rfl 76 rfl ?_
          obtain ⟨hi76, h⟩ := h
          refine jr_13 hX hK _ rfl hi76 dX7_leastOf_76 77 rfl ?_
          refine jj_aload_n hX dX7_leastOf_77 0 rfl 78 rfl ?_
          refine jj_iload hX dX7_leastOf_78 4 rfl 80 rfl ?_
          refine kmw_cellsOf hX hK hD q1848 (Nat.le_of_ble_eq_true rfl) (Nat.le_of_ble_eq_true rfl) (Nat.zero_le _) (Nat.zero_le _) (Nat.le_of_ble_eq_true rfl) dX7_leastOf_80 83 rfl h (fun r80 u80 h => ?_)
          refine jj_aload_n hX dX7_leastOf_83 0 rfl 84 rfl ?_
          refine jj_iload_n hX dX7_leastOf_84 3 rfl 85 rfl ?_
          refine kmw_byteOf hX hK hD q1764 (Nat.le_of_ble_eq_true rfl) (Nat.le_of_ble_eq_true rfl) (Nat.zero_le _) (Nat.zero_le _) (Nat.le_of_ble_eq_true rfl) dX7_leastOf_85 88 rfl h (fun r85 u85 h => ?_)
          refine kmw_isGreat hX MW.keeps q1774 (Nat.le_of_ble_eq_true rfl) (Nat.le_of_ble_eq_true rfl) (Nat.zero_le _) (Nat.zero_le _) (Nat.le_of_ble_eq_true rfl) dX7_leastOf_88 91 rfl h (fun r88 hb88 h => ?_)
          refine jj_if_eq hX dX7_leastOf_91 98 94 (by decide) rfl (fun c91 => ?_) (fun c91 => ?_)
          · have h := h.1 c91
            refine jj_iconst hX dX7_leastOf_98 ci_0 99 rfl ?_
            exact tmw_leastOf_B99 hX hK hD hK11 ih h
          · have h := h.2 c91
            refine jj_iconst hX dX7_leastOf_94 ci_1 95 rfl ?_
            refine jj_goto hX dX7_leastOf_95 99 (by decide) ?_
            exact tmw_leastOf_B99 hX hK hD hK11 ih h
set_option maxHeartbeats 4000000 in
set_option maxRecDepth 100000 in
theorem tmw_leastOf_L11 {X : JC} {D : va_G} {dA ad : Nat → Nat} {Post : Int32 → MS → Prop} {x1 : Int32} {x2 : Int32} (hX : JX X yX7_leastOf.cls cX7_leastOf 5 (Option.some Jvm.ClassFile.FieldType.int) 3 66 0 0) (hK : KM D dA (jj_s X)) (hD : MD ad) : ∀ (n : Nat) (x3 : Int32) (u : MS), mw_leastOf_L11 Post x1 x2 n x3 u → JJ X (AM ad) (jj_Q X (va_Qi Post (jm_B D dA ad) (AM ad)) 0 0 (AM ad)) 5 (MW D dA ad u) 0 0 11 [(0, .ref (ad 0)), (1, .int x1), (2, .int x2), (3, .int x3)] [] := by
  intro n
  induction n with
  | zero =>
    intro x3 u h
    exact h.elim
  | succ n ih =>
    intro x3 u h
    have h : mw_leastOf_L11_S Post x1 x2 (mw_leastOf_L11 Post x1 x2 n) x3 u := h
    unfold mw_leastOf_L11_S at h
    refine jj_iload_n hX dX7_leastOf_11 3 rfl 12 rfl ?_
    refine jj_iload_n hX dX7_leastOf_12 1 rfl 13 rfl ?_
    refine jj_icmp_lt hX dX7_leastOf_13 135 16 (by decide) rfl (fun c13 => ?_) (fun c13 => ?_)
    · have h := h.1 c13
      refine jt_31 hX hK dX7_leastOf_135 0 rfl dX7_leastOf_136 q1515 139 rfl rfl ?_
      refine jj_iload_n hX dX7_leastOf_139 1 rfl 140 rfl ?_
      obtain ⟨hi140, h⟩ := h
      refine jr_13 hX hK _ rfl hi140 dX7_leastOf_140 141 rfl ?_
      exact jj_reti (post := Post) (u := u) hX dX7_leastOf_141 (Nat.le_refl 0) (Nat.le_refl 0) jm_hB h
    · have h := h.2 c13
      refine jt_31 hX hK dX7_leastOf_16 0 rfl dX7_leastOf_17 q1515 20 rfl rfl ?_
      refine jj_iload_n hX dX7_leastOf_20 3 rfl 21 rfl ?_
      refine jj_ldcw (v := 1000000) hX dX7_leastOf_21 q2026 24 rfl ?_
      obtain ⟨hi24, h⟩ := h
      refine jw_13 hX hK hD _ rfl hi24 dX7_leastOf_24 25 rfl (fun u24 e24 => ?_)
      have h := h u24 e24
      refine jj_iconst hX dX7_leastOf_25 ci_0 26 rfl ?_
      refine jj_istore (lv2 := [(0, .ref (ad 0)), (1, .int x1), (2, .int x2), (3, .int x3), (4, .int (0 : Int32))]) hX dX7_leastOf_26 (Nat.le_of_ble_eq_true rfl) [1, 2, 3, 4, 0] rfl 28 rfl ?_
      obtain ⟨n9, h⟩ := h
      exact tmw_leastOf_L28 hX hK hD ih n9 _ _ h
set_option maxHeartbeats 4000000 in
set_option maxRecDepth 100000 in
theorem mmw_leastOf (l : Launch) (D : va_G) (dA ad : Nat → Nat) (hD : MD ad) (x1 : Int32) (x2 : Int32) (u : MS) (Post : Int32 → MS → Prop) (h : mw_leastOf x1 x2 u Post) : Met l yX7_leastOf (ws_ yX7_leastOf cX7_leastOf 5 (Option.some Jvm.ClassFile.FieldType.int)) (jm_rm 3 66) (jm_Pc D dA ad u [.int x1, .int x2]) (va_Qi Post (jm_B D dA ad) (AM ad)) 0 0 (AM ad) := by
  refine jm_start [.int x1, .int x2] [(0, .ref (ad 0)), (1, .int x1), (2, .int x2)] (by decide) (Nat.le_of_ble_eq_true rfl) rfl (fun X hX hK => ?_)
  unfold mw_leastOf at h
  refine jt_31 hX hK dX7_leastOf_0 0 rfl dX7_leastOf_1 q1515 4 rfl rfl ?_
  refine jj_iload_n hX dX7_leastOf_4 2 rfl 5 rfl ?_
  refine jj_iconst hX dX7_leastOf_5 ci_0 6 rfl ?_
  obtain ⟨hi6, h⟩ := h
  refine jw_13 hX hK hD _ rfl hi6 dX7_leastOf_6 7 rfl (fun u6 e6 => ?_)
  have h := h u6 e6
  refine jj_iload_n hX dX7_leastOf_7 2 rfl 8 rfl ?_
  refine jj_iconst hX dX7_leastOf_8 ci_1 9 rfl ?_
  refine jj_isub hX dX7_leastOf_9 10 rfl ?_
  refine jj_topi (fun v10 e10 => ?_)
  have h := h v10 e10
  refine jj_istore_n (lv2 := [(0, .ref (ad 0)), (1, .int x1), (2, .int x2), (3, .int v10)]) hX dX7_leastOf_10 (Nat.le_of_ble_eq_true rfl) [1, 2, 3, 0] rfl 11 rfl ?_
  obtain ⟨n9, h⟩ := h
  exact tmw_leastOf_L11 hX hK hD n9 _ _ h
theorem hd_mw_leastOf : yX7_leastOf.cls = RX7 ∧ yX7_leastOf.cls ≠ "java/lang/invoke/MethodHandle" ∧ yX7_leastOf.cls ≠ "java/lang/invoke/VarHandle" ∧ (parseMethodDescriptor yX7_leastOf.desc).map (fun d => d.parameters.length) = some 2 := by decide +kernel
theorem kmw_leastOf {X : JC} {Q : State → Prop} {nL k n pc : Nat} {lv : List (Nat × Value)} {st : List Value} {own : String} {cc : ByteArray} {ret : Option FieldType} {F LL mc ms ix : Nat} {D : va_G} {dA ad : Nat → Nat} {x1 : Int32} {x2 : Int32} {u : MS} {Post : Int32 → MS → Prop} (hX : JX X own cc nL ret F LL mc ms) (hK : KM D dA (jj_s X)) (hD : MD ad) (hlk : (Cond.methodLink own ix yX7_leastOf) ∈ lw_all) (hF : 3 + 1 ≤ F) (hL : 8 + (5 + 11) + 66 ≤ LL) (hk : k ≤ mc) (hk2 : n ≤ ms) (hw : (st.map fun v => v.category).sum ≤ 8) (d : decode cc pc = .ok (.invokevirtual ix, 3)) (q : Nat) (hq : pc + 3 = q) (h : mw_leastOf x1 x2 u Post) (kk : ∀ (r : Int32) (u2 : MS), Post r u2 → JJ X (AM ad) Q nL (MW D dA ad u2) k n q lv (.int r :: st)) : JJ X (AM ad) Q nL (MW D dA ad u) k n pc lv (.int x2 :: .int x1 :: .ref (ad 0) :: st) :=
  jm_calli (na := 2) (As := [.int x1, .int x2]) hX hK (mmw_leastOf (jj_l X) D dA ad hD x1 x2 u Post h) hlk q2024 qs101 q129 q2025 hd_mw_leastOf rfl rfl hw hF hL hk hk2 d q hq kk
