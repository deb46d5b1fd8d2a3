set_option linter.unusedVariables false
def mw_empties_L2_S (Post : MS → Prop) (x1 : Int32) (R : Int32 → MS → Prop) (x2 : Int32) (u : MS) : Prop :=
  ((3300 : Int32) ≤ x2 →
    vp_in (x1 + (4 : Int32)) 19800 ∧
    ∀ u33 : MS, u33 = jm_s u 1 (x1 + (4 : Int32)).toNatClampNeg (32 : Int32) →
    vp_in (x1 + (5 : Int32)) 19800 ∧
    ∀ u43 : MS, u43 = jm_s u33 1 (x1 + (5 : Int32)).toNatClampNeg (25 : Int32) →
    vp_in (x1 + (7 : Int32)) 19800 ∧
    ∀ u53 : MS, u53 = jm_s u43 1 (x1 + (7 : Int32)).toNatClampNeg (-1 : Int32) →
    Post u53) ∧
  (¬ (3300 : Int32) ≤ x2 →
    vp_in (x1 + x2) 19800 ∧
    ∀ u17 : MS, u17 = jm_s u 1 (x1 + x2).toNatClampNeg (0 : Int32) →
    ∀ v18 : Int32, v18 = x2 + (1 : Int32) →
    R v18 u17)
def mw_empties_L2 (Post : MS → Prop) (x1 : Int32) : Nat → Int32 → MS → Prop
  | 0 => fun _ _ => False
  | n + 1 => fun x2 u => mw_empties_L2_S Post x1 (mw_empties_L2 Post x1 n) x2 u
/-- RaisedPressModel.empties(I)V -/
def mw_empties (x1 : Int32) (u : MS) (Post : MS → Prop) : Prop :=
  ∃ n, mw_empties_L2 Post x1 n (0 : Int32) u
set_option maxHeartbeats 4000000 in
set_option maxRecDepth 100000 in
theorem tmw_empties_L2 {X : JC} {D : va_G} {dA ad : Nat → Nat} {Post : MS → Prop} {x1 : Int32} (hX : JX X yX7_empties.cls cX7_empties 3 (Option.none : Option Jvm.ClassFile.FieldType) 0 0 0 0) (hK : KM D dA (jj_s X)) (hD : MD ad) : ∀ (n : Nat) (x2 : Int32) (u : MS), mw_empties_L2 Post x1 n x2 u → JJ X (AM ad) (jj_Q X (va_Qv Post (jm_B D dA ad) (AM ad)) 0 0 (AM ad)) 3 (MW D dA ad u) 0 0 2 [(0, .ref (ad 0)), (1, .int x1), (2, .int x2)] [] := by
  intro n
  induction n with
  | zero =>
    intro x2 u h
    exact h.elim
  | succ n ih =>
    intro x2 u h
    have h : mw_empties_L2_S Post x1 (mw_empties_L2 Post x1 n) x2 u := h
    unfold mw_empties_L2_S at h
    refine jj_iload_n hX dX7_empties_2 2 rfl 3 rfl ?_
    refine jj_sipush hX dX7_empties_3 cs_3300 6 rfl ?_
    refine jj_icmp_ge hX dX7_empties_6 24 9 (by decide) rfl (fun c6 => ?_) (fun c6 => ?_)
    · have h := h.1 c6
      refine jt_0 hX hK dX7_empties_24 0 rfl dX7_empties_25 q1484 28 rfl rfl ?_
      refine jj_iload_n hX dX7_empties_28 1 rfl 29 rfl ?_
      refine jj_iconst hX dX7_empties_29 ci_4 30 rfl ?_
      refine jj_iadd hX dX7_empties_30 31 rfl ?_
      refine jj_bipush hX dX7_empties_31 cb_32 33 rfl ?_
      obtain ⟨hi33, h⟩ := h
      refine jw_1 hX hK hD _ rfl hi33 dX7_empties_33 34 rfl (fun u33 e33 => ?_)
      have h := h u33 e33
      refine jt_0 hX hK dX7_empties_34 0 rfl dX7_empties_35 q1484 38 rfl rfl ?_
      refine jj_iload_n hX dX7_empties_38 1 rfl 39 rfl ?_
      refine jj_iconst hX dX7_empties_39 ci_5 40 rfl ?_
      refine jj_iadd hX dX7_empties_40 41 rfl ?_
      refine jj_bipush hX dX7_empties_41 cb_25 43 rfl ?_
      obtain ⟨hi43, h⟩ := h
      refine jw_1 hX hK hD _ rfl hi43 dX7_empties_43 44 rfl (fun u43 e43 => ?_)
      have h := h u43 e43
      refine jt_0 hX hK dX7_empties_44 0 rfl dX7_empties_45 q1484 48 rfl rfl ?_
      refine jj_iload_n hX dX7_empties_48 1 rfl 49 rfl ?_
      refine jj_bipush hX dX7_empties_49 cb_7 51 rfl ?_
      refine jj_iadd hX dX7_empties_51 52 rfl ?_
      refine jj_iconst hX dX7_empties_52 ci_m1 53 rfl ?_
      obtain ⟨hi53, h⟩ := h
      refine jw_1 hX hK hD _ rfl hi53 dX7_empties_53 54 rfl (fun u53 e53 => ?_)
      have h := h u53 e53
      exact jj_retv hX dX7_empties_54 (Nat.le_refl 0) (Nat.le_refl 0) jm_hB h
    · have h := h.2 c6
      refine jt_0 hX hK dX7_empties_9 0 rfl dX7_empties_10 q1484 13 rfl rfl ?_
      refine jj_iload_n hX dX7_empties_13 1 rfl 14 rfl ?_
      refine jj_iload_n hX dX7_empties_14 2 rfl 15 rfl ?_
      refine jj_iadd hX dX7_empties_15 16 rfl ?_
      refine jj_iconst hX dX7_empties_16 ci_0 17 rfl ?_
      obtain ⟨hi17, h⟩ := h
      refine jw_1 hX hK hD _ rfl hi17 dX7_empties_17 18 rfl (fun u17 e17 => ?_)
      have h := h u17 e17
      obtain ⟨v18, e18⟩ : ∃ y : Int32, y = x2 + (1 : Int32) := ⟨_, rfl⟩
      have h := h v18 e18
      refine jj_iinc (v := v18) (lv2 := [(0, .ref (ad 0)), (1, .int x1), (2, .int v18)]) hX dX7_empties_18 2 rfl (by rw [e18, ci_1]) (Nat.le_of_ble_eq_true rfl) [1, 2, 0] rfl 21 rfl ?_
      refine jj_goto hX dX7_empties_21 2 (by decide) ?_
      exact ih _ _ h
set_option maxHeartbeats 4000000 in
set_option maxRecDepth 100000 in
theorem mmw_empties (l : Launch) (D : va_G) (dA ad : Nat → Nat) (hD : MD ad) (x1 : Int32) (u : MS) (Post : MS → Prop) (h : mw_empties x1 u Post) : Met l yX7_empties (ws_ yX7_empties cX7_empties 3 (Option.none : Option Jvm.ClassFile.FieldType)) (jm_rm 0 0) (jm_Pc D dA ad u [.int x1]) (va_Qv Post (jm_B D dA ad) (AM ad)) 0 0 (AM ad) := by
  refine jm_start [.int x1] [(0, .ref (ad 0)), (1, .int x1)] (by decide) (Nat.le_of_ble_eq_true rfl) rfl (fun X hX hK => ?_)
  unfold mw_empties at h
  refine jj_iconst hX dX7_empties_0 ci_0 1 rfl ?_
  refine jj_istore_n (lv2 := [(0, .ref (ad 0)), (1, .int x1), (2, .int (0 : Int32))]) hX dX7_empties_1 (Nat.le_of_ble_eq_true rfl) [1, 2, 0] rfl 2 rfl ?_
  obtain ⟨n9, h⟩ := h
  exact tmw_empties_L2 hX hK hD n9 _ _ h
theorem hd_mw_empties : yX7_empties.cls = RX7 ∧ yX7_empties.cls ≠ "java/lang/invoke/MethodHandle" ∧ yX7_empties.cls ≠ "java/lang/invoke/VarHandle" ∧ (parseMethodDescriptor yX7_empties.desc).map (fun d => d.parameters.length) = some 1 := by decide +kernel
theorem kmw_empties {X : JC} {Q : State → Prop} {nL k n pc : Nat} {lv : List (Nat × Value)} {st : List Value} {own : String} {cc : ByteArray} {ret : Option FieldType} {F LL mc ms ix : Nat} {D : va_G} {dA ad : Nat → Nat} {x1 : Int32} {u : MS} {Post : MS → Prop} (hX : JX X own cc nL ret F LL mc ms) (hK : KM D dA (jj_s X)) (hD : MD ad) (hlk : (Cond.methodLink own ix yX7_empties) ∈ lw_all) (hF : 0 + 1 ≤ F) (hL : 8 + (3 + 11) + 0 ≤ LL) (hk : k ≤ mc) (hk2 : n ≤ ms) (hw : (st.map fun v => v.category).sum ≤ 8) (d : decode cc pc = .ok (.invokevirtual ix, 3)) (q : Nat) (hq : pc + 3 = q) (h : mw_empties x1 u Post) (kk : ∀ u2 : MS, Post u2 → JJ X (AM ad) Q nL (MW D dA ad u2) k n q lv st) : JJ X (AM ad) Q nL (MW D dA ad u) k n pc lv (.int x1 :: .ref (ad 0) :: st) :=
  jm_callv (na := 1) (As := [.int x1]) hX hK (mmw_empties (jj_l X) D dA ad hD x1 u Post h) hlk q1482 qs58 q129 q1483 hd_mw_empties rfl rfl hw hF hL hk hk2 d q hq kk
/-- RaisedPressModel.status()I -/
def mw_status (u : MS) (Post : Int32 → MS → Prop) : Prop :=
  Post (jm_i u 0 1) u
set_option maxHeartbeats 4000000 in
set_option maxRecDepth 100000 in
theorem mmw_status (l : Launch) (D : va_G) (dA ad : Nat → Nat) (hD : MD ad) (u : MS) (Post : Int32 → MS → Prop) (h : mw_status  u Post) : Met l yX7_status (ws_ yX7_status cX7_status 1 (Option.some Jvm.ClassFile.FieldType.int)) (jm_rm 0 0) (jm_Pc D dA ad u []) (va_Qi Post (jm_B D dA ad) (AM ad)) 0 0 (AM ad) := by
  refine jm_start [] [(0, .ref (ad 0))] (by decide) (Nat.le_of_ble_eq_true rfl) rfl (fun X hX hK => ?_)
  unfold mw_status at h
  refine jt_1 hX hK dX7_status_0 0 rfl dX7_status_1 q1485 4 rfl rfl ?_
  exact jj_reti (post := Post) (u := u) hX dX7_status_4 (Nat.le_refl 0) (Nat.le_refl 0) jm_hB h
theorem hd_mw_status : yX7_status.cls = RX7 ∧ yX7_status.cls ≠ "java/lang/invoke/MethodHandle" ∧ yX7_status.cls ≠ "java/lang/invoke/VarHandle" ∧ (parseMethodDescriptor yX7_status.desc).map (fun d => d.parameters.length) = some 0 := by decide +kernel
theorem kmw_status {X : JC} {Q : State → Prop} {nL k n pc : Nat} {lv : List (Nat × Value)} {st : List Value} {own : String} {cc : ByteArray} {ret : Option FieldType} {F LL mc ms ix : Nat} {D : va_G} {dA ad : Nat → Nat} {u : MS} {Post : Int32 → MS → Prop} (hX : JX X own cc nL ret F LL mc ms) (hK : KM D dA (jj_s X)) (hD : MD ad) (hlk : (Cond.methodLink own ix yX7_status) ∈ lw_all) (hF : 0 + 1 ≤ F) (hL : 8 + (1 + 11) + 0 ≤ LL) (hk : k ≤ mc) (hk2 : n ≤ ms) (hw : (st.map fun v => v.category).sum ≤ 8) (d : decode cc pc = .ok (.invokevirtual ix, 3)) (q : Nat) (hq : pc + 3 = q) (h : mw_status  u Post) (kk : ∀ (r : Int32) (u2 : MS), Post r u2 → JJ X (AM ad) Q nL (MW D dA ad u2) k n q lv (.int r :: st)) : JJ X (AM ad) Q nL (MW D dA ad u) k n pc lv (.ref (ad 0) :: st) :=
  jm_calli (na := 0) (As := []) hX hK (mmw_status (jj_l X) D dA ad hD  u Post h) hlk q1624 q1625 q129 q1626 hd_mw_status rfl rfl hw hF hL hk hk2 d q hq kk
/-- RaisedPressModel.top()J -/
def mw_top (u : MS) (Post : Int64 → MS → Prop) : Prop :=
  Post (jm_l u 0 2) u
set_option maxHeartbeats 4000000 in
set_option maxRecDepth 100000 in
theorem mmw_top (l : Launch) (D : va_G) (dA ad : Nat → Nat) (hD : MD ad) (u : MS) (Post : Int64 → MS → Prop) (h : mw_top  u Post) : Met l yX7_top (ws_ yX7_top cX7_top 1 (Option.some Jvm.ClassFile.FieldType.long)) (jm_rm 0 0) (jm_Pc D dA ad u []) (va_Ql Post (jm_B D dA ad) (AM ad)) 0 0 (AM ad) := by
  refine jm_start [] [(0, .ref (ad 0))] (by decide) (Nat.le_of_ble_eq_true rfl) rfl (fun X hX hK => ?_)
  unfold mw_top at h
  refine jt_2 hX hK dX7_top_0 0 rfl dX7_top_1 q1486 4 rfl rfl ?_
  exact jj_retl (post := Post) (u := u) hX dX7_top_4 (Nat.le_refl 0) (Nat.le_refl 0) jm_hB h
theorem hd_mw_top : yX7_top.cls = RX7 ∧ yX7_top.cls ≠ "java/lang/invoke/MethodHandle" ∧ yX7_top.cls ≠ "java/lang/invoke/VarHandle" ∧ (parseMethodDescriptor yX7_top.desc).map (fun d => d.parameters.length) = some 0 := by decide +kernel
theorem kmw_top {X : JC} {Q : State → Prop} {nL k n pc : Nat} {lv : List (Nat × Value)} {st : List Value} {own : String} {cc : ByteArray} {ret : Option FieldType} {F LL mc ms ix : Nat} {D : va_G} {dA ad : Nat → Nat} {u : MS} {Post : Int64 → MS → Prop} (hX : JX X own cc nL ret F LL mc ms) (hK : KM D dA (jj_s X)) (hD : MD ad) (hlk : (Cond.methodLink own ix yX7_top) ∈ lw_all) (hF : 0 + 1 ≤ F) (hL : 8 + (1 + 11) + 0 ≤ LL) (hk : k ≤ mc) (hk2 : n ≤ ms) (hw : (st.map fun v => v.category).sum ≤ 8) (d : decode cc pc = .ok (.invokevirtual ix, 3)) (q : Nat) (hq : pc + 3 = q) (h : mw_top  u Post) (kk : ∀ (r : Int64) (u2 : MS), Post r u2 → JJ X (AM ad) Q nL (MW D dA ad u2) k n q lv (.long r :: st)) : JJ X (AM ad) Q nL (MW D dA ad u) k n pc lv (.ref (ad 0) :: st) :=
  jm_calll (na := 0) (As := []) hX hK (mmw_top (jj_l X) D dA ad hD  u Post h) hlk q1628 q1629 q129 q1630 hd_mw_top rfl rfl hw hF hL hk hk2 d q hq kk
/-- RaisedPressModel.bottom()J -/
def mw_bottom (u : MS) (Post : Int64 → MS → Prop) : Prop :=
  Post (jm_l u 0 3) u
set_option maxHeartbeats 4000000 in
set_option maxRecDepth 100000 in
theorem mmw_bottom (l : Launch) (D : va_G) (dA ad : Nat → Nat) (hD : MD ad) (u : MS) (Post : Int64 → MS → Prop) (h : mw_bottom  u Post) : Met l yX7_bottom (ws_ yX7_bottom cX7_bottom 1 (Option.some Jvm.ClassFile.FieldType.long)) (jm_rm 0 0) (jm_Pc D dA ad u []) (va_Ql Post (jm_B D dA ad) (AM ad)) 0 0 (AM ad) := by
  refine jm_start [] [(0, .ref (ad 0))] (by decide) (Nat.le_of_ble_eq_true rfl) rfl (fun X hX hK => ?_)
  unfold mw_bottom at h
  refine jt_3 hX hK dX7_bottom_0 0 rfl dX7_bottom_1 q1487 4 rfl rfl ?_
  exact jj_retl (post := Post) (u := u) hX dX7_bottom_4 (Nat.le_refl 0) (Nat.le_refl 0) jm_hB h
theorem hd_mw_bottom : yX7_bottom.cls = RX7 ∧ yX7_bottom.cls ≠ "java/lang/invoke/MethodHandle" ∧ yX7_bottom.cls ≠ "java/lang/invoke/VarHandle" ∧ (parseMethodDescriptor yX7_bottom.desc).map (fun d => d.parameters.length) = some 0 := by decide +kernel
theorem kmw_bottom {X : JC} {Q : State → Prop} {nL k n pc : Nat} {lv : List (Nat × Value)} {st : List Value} {own : String} {cc : ByteArray} {ret : Option FieldType} {F LL mc ms ix : Nat} {D : va_G} {dA ad : Nat → Nat} {u : MS} {Post : Int64 → MS → Prop} (hX : JX X own cc nL ret F LL mc ms) (hK : KM D dA (jj_s X)) (hD : MD ad) (hlk : (Cond.methodLink own ix yX7_bottom) ∈ lw_all) (hF : 0 + 1 ≤ F) (hL : 8 + (1 + 11) + 0 ≤ LL) (hk : k ≤ mc) (hk2 : n ≤ ms) (hw : (st.map fun v => v.category).sum ≤ 8) (d : decode cc pc = .ok (.invokevirtual ix, 3)) (q : Nat) (hq : pc + 3 = q) (h : mw_bottom  u Post) (kk : ∀ (r : Int64) (u2 : MS), Post r u2 → JJ X (AM ad) Q nL (MW D dA ad u2) k n q lv (.long r :: st)) : JJ X (AM ad) Q nL (MW D dA ad u) k n pc lv (.ref (ad 0) :: st) :=
  jm_calll (na := 0) (As := []) hX hK (mmw_bottom (jj_l X) D dA ad hD  u Post h) hlk q1632 q1633 q129 q1634 hd_mw_bottom rfl rfl hw hF hL hk hk2 d q hq kk
/-- RaisedPressModel.isTray(I)Z -/
def mw_isTray (x0 : Int32) (Post : Int32 → Prop) : Prop :=
  (x0 < 0 →
    Post (0 : Int32)) ∧
  (¬ x0 < 0 →
    ((4 : Int32) ≤ x0 →
      Post (0 : Int32)) ∧
    (¬ (4 : Int32) ≤ x0 →
      Post (1 : Int32)))
set_option maxHeartbeats 4000000 in
set_option maxRecDepth 100000 in
theorem mmw_isTray (l : Launch) (x0 : Int32) (Post : Int32 → Prop) (h : mw_isTray x0 Post) : Met l yX7_isTray (ws_ yX7_isTray cX7_isTray 1 (Option.some Jvm.ClassFile.FieldType.boolean)) (jm_rm 0 0) (js_Pc [.int x0]) (va_Qi (fun r (_ : Unit) => Post r ∧ jj_z r) js_B js_A) 0 0 js_A := by
  refine js_start [.int x0] [(0, .int x0)] (by decide) (Nat.le_of_ble_eq_true rfl) rfl (fun X hX => ?_)
  unfold mw_isTray at h
  refine jj_iload_n hX dX7_isTray_0 0 rfl 1 rfl ?_
  refine jj_if_lt hX dX7_isTray_1 13 4 (by decide) rfl (fun c1 => ?_) (fun c1 => ?_)
  · have h := h.1 c1
    refine jj_iconst hX dX7_isTray_13 ci_0 14 rfl ?_
    exact jj_retz (post := (fun r (_ : Unit) => Post r)) (u := ()) hX dX7_isTray_14 (Nat.le_refl 0) (Nat.le_refl 0) js_hB jj_z0 h
  · have h := h.2 c1
    refine jj_iload_n hX dX7_isTray_4 0 rfl 5 rfl ?_
    refine jj_iconst hX dX7_isTray_5 ci_4 6 rfl ?_
    refine jj_icmp_ge hX dX7_isTray_6 13 9 (by decide) rfl (fun c6 => ?_) (fun c6 => ?_)
    · have h := h.1 c6
      refine jj_iconst hX dX7_isTray_13 ci_0 14 rfl ?_
      exact jj_retz (post := (fun r (_ : Unit) => Post r)) (u := ()) hX dX7_isTray_14 (Nat.le_refl 0) (Nat.le_refl 0) js_hB jj_z0 h
    · have h := h.2 c6
      refine jj_iconst hX dX7_isTray_9 ci_1 10 rfl ?_
      refine jj_goto hX dX7_isTray_10 14 (by decide) ?_
      exact jj_retz (post := (fun r (_ : Unit) => Post r)) (u := ()) hX dX7_isTray_14 (Nat.le_refl 0) (Nat.le_refl 0) js_hB jj_z1 h
theorem hd_mw_isTray : yX7_isTray.cls ≠ "java/lang/invoke/MethodHandle" ∧ yX7_isTray.cls ≠ "java/lang/invoke/VarHandle" ∧ (parseMethodDescriptor yX7_isTray.desc).map (fun d => d.parameters.length) = some 1 := by decide +kernel
theorem kmw_isTray {X : JC} {A : Nat → Prop} {Q : State → Prop} {P : Heap → Prop} {nL k n pc : Nat} {lv : List (Nat × Value)} {st : List Value} {own : String} {cc : ByteArray} {ret : Option FieldType} {F LL mc ms ix : Nat} {x0 : Int32} {Post : Int32 → Prop} (hX : JX X own cc nL ret F LL mc ms) (hKP : jj_Keeps P) (hlk : (Cond.methodLink own ix yX7_isTray) ∈ lw_all) (hF : 0 + 1 ≤ F) (hL : 8 + (1 + 11) + 0 ≤ LL) (hk : k ≤ mc) (hk2 : n ≤ ms) (hw : (st.map fun v => v.category).sum ≤ 8) (d : decode cc pc = .ok (.invokestatic ix, 3)) (q : Nat) (hq : pc + 3 = q) (h : mw_isTray x0 Post) (kk : ∀ r : Int32, jj_z r → Post r → JJ X A Q nL P k n q lv (.int r :: st)) : JJ X A Q nL P k n pc lv (.int x0 :: st) :=
  js_callz (na := 1) (As := [.int x0]) hX hKP (mmw_isTray (jj_l X) x0 Post h) hlk q1640 q129 q1641 hd_mw_isTray rfl rfl hw hF hL hk hk2 d q hq kk
/-- RaisedPressModel.is(I)Z -/
def mw_is (x1 : Int32) (u : MS) (Post : Int32 → MS → Prop) : Prop :=
  ∀ u2 : MS, u2 = jm_s u 0 1 x1 →
  (¬ x1 = 0 →
    Post (0 : Int32) u2) ∧
  (x1 = 0 →
    Post (1 : Int32) u2)
set_option maxHeartbeats 4000000 in
set_option maxRecDepth 100000 in
theorem mmw_is (l : Launch) (D : va_G) (dA ad : Nat → Nat) (hD : MD ad) (x1 : Int32) (u : MS) (Post : Int32 → MS → Prop) (h : mw_is x1 u Post) : Met l yX7_is (ws_ yX7_is cX7_is 2 (Option.some Jvm.ClassFile.FieldType.boolean)) (jm_rm 0 0) (jm_Pc D dA ad u [.int x1]) (va_Qi (fun r u => Post r u ∧ jj_z r) (jm_B D dA ad) (AM ad)) 0 0 (AM ad) := by
  refine jm_start [.int x1] [(0, .ref (ad 0)), (1, .int x1)] (by decide) (Nat.le_of_ble_eq_true rfl) rfl (fun X hX hK => ?_)
  unfold mw_is at h
  refine jj_aload_n hX dX7_is_0 0 rfl 1 rfl ?_
  refine jj_iload_n hX dX7_is_1 1 rfl 2 rfl ?_
  refine jp_1 hX hK hD dX7_is_2 q1485 5 rfl (fun u2 e2 => ?_)
  have h := h u2 e2
  refine jj_iload_n hX dX7_is_5 1 rfl 6 rfl ?_
  refine jj_if_ne hX dX7_is_6 13 9 (by decide) rfl (fun c6 => ?_) (fun c6 => ?_)
  · have h := h.1 c6
    refine jj_iconst hX dX7_is_13 ci_0 14 rfl ?_
    exact jj_retz (post := Post) (u := u2) hX dX7_is_14 (Nat.le_refl 0) (Nat.le_refl 0) jm_hB jj_z0 h
  · have h := h.2 c6
    refine jj_iconst hX dX7_is_9 ci_1 10 rfl ?_
    refine jj_goto hX dX7_is_10 14 (by decide) ?_
    exact jj_retz (post := Post) (u := u2) hX dX7_is_14 (Nat.le_refl 0) (Nat.le_refl 0) jm_hB jj_z1 h
theorem hd_mw_is : yX7_is.cls = RX7 ∧ yX7_is.cls ≠ "java/lang/invoke/MethodHandle" ∧ yX7_is.cls ≠ "java/lang/invoke/VarHandle" ∧ (parseMethodDescriptor yX7_is.desc).map (fun d => d.parameters.length) = some 1 := by decide +kernel
theorem kmw_is {X : JC} {Q : State → Prop} {nL k n pc : Nat} {lv : List (Nat × Value)} {st : List Value} {own : String} {cc : ByteArray} {ret : Option FieldType} {F LL mc ms ix : Nat} {D : va_G} {dA ad : Nat → Nat} {x1 : Int32} {u : MS} {Post : Int32 → MS → Prop} (hX : JX X own cc nL ret F LL mc ms) (hK : KM D dA (jj_s X)) (hD : MD ad) (hlk : (Cond.methodLink own ix yX7_is) ∈ lw_all) (hF : 0 + 1 ≤ F) (hL : 8 + (2 + 11) + 0 ≤ LL) (hk : k ≤ mc) (hk2 : n ≤ ms) (hw : (st.map fun v => v.category).sum ≤ 8) (d : decode cc pc = .ok (.invokevirtual ix, 3)) (q : Nat) (hq : pc + 3 = q) (h : mw_is x1 u Post) (kk : ∀ (r : Int32) (u2 : MS), jj_z r → Post r u2 → JJ X (AM ad) Q nL (MW D dA ad u2) k n q lv (.int r :: st)) : JJ X (AM ad) Q nL (MW D dA ad u) k n pc lv (.int x1 :: .ref (ad 0) :: st) :=
  jm_callz (na := 1) (As := [.int x1]) hX hK (mmw_is (jj_l X) D dA ad hD x1 u Post h) hlk q1644 qs59 q129 q1645 hd_mw_is rfl rfl hw hF hL hk hk2 d q hq kk
def mw_tray_B26 (Post : Int32 → MS → Prop) (u : MS) : Prop :=
  mw_is (1 : Int32) u (fun r28 u28 =>
    Post r28 u28)
def mw_tray_L49_S (Post : Int32 → MS → Prop) (x1 : Int32) (x3 : Int32) (R : Int32 → MS → Prop) (x4 : Int32) (u : MS) : Prop :=
  (x3 ≤ x4 →
    mw_is (0 : Int32) u (fun r76 u76 =>
      Post r76 u76)) ∧
  (¬ x3 ≤ x4 →
    vp_in (((60 : Int32) * x1) + x4) 240 ∧
    ∀ u67 : MS, u67 = jm_sl u 4 (((60 : Int32) * x1) + x4).toNatClampNeg (0 : Int64) →
    ∀ v68 : Int32, v68 = x4 + (1 : Int32) →
    R v68 u67)
def mw_tray_L49 (Post : Int32 → MS → Prop) (x1 : Int32) (x3 : Int32) : Nat → Int32 → MS → Prop
  | 0 => fun _ _ => False
  | n + 1 => fun x4 u => mw_tray_L49_S Post x1 x3 (mw_tray_L49 Post x1 x3 n) x4 u
/-- RaisedPressModel.tray(III)Z -/
def mw_tray (x1 : Int32) (x2 : Int32) (x3 : Int32) (u : MS) (Post : Int32 → MS → Prop) : Prop :=
  mw_isTray x1 (fun r1 =>
    (r1 = 0 →
      mw_tray_B26 Post u) ∧
    (¬ r1 = 0 →
      (x2 < 0 →
        mw_tray_B26 Post u) ∧
      (¬ x2 < 0 →
        ((3 : Int32) < x2 →
          mw_tray_B26 Post u) ∧
        (¬ (3 : Int32) < x2 →
          (x3 < 0 →
            mw_tray_B26 Post u) ∧
          (¬ x3 < 0 →
            (x3 ≤ (60 : Int32) →
              vp_in x1 4 ∧
              ∀ u38 : MS, u38 = jm_s u 2 x1.toNatClampNeg x2 →
              vp_in x1 4 ∧
              ∀ u45 : MS, u45 = jm_s u38 3 x1.toNatClampNeg x3 →
              ∃ n, mw_tray_L49 Post x1 x3 n (0 : Int32) u45) ∧
            (¬ x3 ≤ (60 : Int32) →
              mw_tray_B26 Post u))))))
set_option maxHeartbeats 4000000 in
set_option maxRecDepth 100000 in
theorem tmw_tray_B26 {X : JC} {D : va_G} {dA ad : Nat → Nat} {Post : Int32 → MS → Prop} {u : MS} (hX : JX X yX7_tray.cls cX7_tray 5 (Option.some Jvm.ClassFile.FieldType.boolean) 1 21 0 0) (hK : KM D dA (jj_s X)) (hD : MD ad) (h : mw_tray_B26 Post  u) : JJ X (AM ad) (jj_Q X (va_Qi (fun r u => Post r u ∧ jj_z r) (jm_B D dA ad) (AM ad)) 0 0 (AM ad)) 5 (MW D dA ad u) 0 0 26 [(0, .ref (ad 0))] [] := by
  unfold mw_tray_B26 at h
  refine jj_aload_n hX dX7_tray_26 0 rfl 27 rfl ?_
  refine jj_iconst hX dX7_tray_27 ci_1 28 rfl ?_
  refine kmw_is hX hK hD q1642 (Nat.le_of_ble_eq_true rfl) (Nat.le_of_ble_eq_true rfl) (Nat.zero_le _) (Nat.zero_le _) (Nat.le_of_ble_eq_true rfl) dX7_tray_28 31 rfl h (fun r28 u28 hb28 h => ?_)
  exact jj_retz (post := Post) (u := u28) hX dX7_tray_31 (Nat.le_refl 0) (Nat.le_refl 0) jm_hB hb28 h
set_option maxHeartbeats 4000000 in
set_option maxRecDepth 100000 in
theorem tmw_tray_L49 {X : JC} {D : va_G} {dA ad : Nat → Nat} {Post : Int32 → MS → Prop} {x1 : Int32} {x3 : Int32} (hX : JX X yX7_tray.cls cX7_tray 5 (Option.some Jvm.ClassFile.FieldType.boolean) 1 21 0 0) (hK : KM D dA (jj_s X)) (hD : MD ad) : ∀ (n : Nat) (x4 : Int32) (u : MS), mw_tray_L49 Post x1 x3 n x4 u → JJ X (AM ad) (jj_Q X (va_Qi (fun r u => Post r u ∧ jj_z r) (jm_B D dA ad) (AM ad)) 0 0 (AM ad)) 5 (MW D dA ad u) 0 0 49 [(0, .ref (ad 0)), (1, .int x1), (3, .int x3), (4, .int x4)] [] := by
  intro n
  induction n with
  | zero =>
    intro x4 u h
    exact h.elim
  | succ n ih =>
    intro x4 u h
    have h : mw_tray_L49_S Post x1 x3 (mw_tray_L49 Post x1 x3 n) x4 u := h
    unfold mw_tray_L49_S at h
    refine jj_iload hX dX7_tray_49 3 rfl 51 rfl ?_
    refine jj_iload_n hX dX7_tray_51 2 rfl 52 rfl ?_
    refine jj_icmp_ge hX dX7_tray_52 74 55 (by decide) rfl (fun c52 => ?_) (fun c52 => ?_)
    · have h := h.1 c52
      refine jj_aload_n hX dX7_tray_74 0 rfl 75 rfl ?_
      refine jj_iconst hX dX7_tray_75 ci_0 76 rfl ?_
      refine kmw_is hX hK hD q1642 (Nat.le_of_ble_eq_true rfl) (Nat.le_of_ble_eq_true rfl) (Nat.zero_le _) (Nat.zero_le _) (Nat.le_of_ble_eq_true rfl) dX7_tray_76 79 rfl h (fun r76 u76 hb76 h => ?_)
      exact jj_retz (post := Post) (u := u76) hX dX7_tray_79 (Nat.le_refl 0) (Nat.le_refl 0) jm_hB hb76 h
    · have h := h.2 c52
      refine jt_6 hX hK dX7_tray_55 0 rfl dX7_tray_56 q1490 59 rfl rfl ?_
      refine jj_bipush hX dX7_tray_59 cb_60 61 rfl ?_
      refine jj_iload_n hX dX7_tray_61 1 rfl 62 rfl ?_
      refine jj_imul hX dX7_tray_62 63 rfl ?_
      refine jj_iload hX dX7_tray_63 3 rfl 65 rfl ?_
      refine jj_iadd hX dX7_tray_65 66 rfl ?_
      refine jj_lconst (v := 0) hX dX7_tray_66 (by decide) 67 rfl ?_
      obtain ⟨hi67, h⟩ := h
      refine jw_4 hX hK hD _ rfl hi67 dX7_tray_67 68 rfl (fun u67 e67 => ?_)
      have h := h u67 e67
      obtain ⟨v68, e68⟩ : ∃ y : Int32, y = x4 + (1 : Int32) := ⟨_, rfl⟩
      have h := h v68 e68
      refine jj_iinc (v := v68) (lv2 := [(0, .ref (ad 0)), (1, .int x1), (3, .int x3), (4, .int v68)]) hX dX7_tray_68 3 rfl (by rw [e68, ci_1]) (Nat.le_of_ble_eq_true rfl) [1, 2, 3, 0] rfl 71 rfl ?_
      refine jj_goto hX dX7_tray_71 49 (by decide) ?_
      exact ih _ _ h
set_option maxHeartbeats 4000000 in
set_option maxRecDepth 100000 in
theorem mmw_tray (l : Launch) (D : va_G) (dA ad : Nat → Nat) (hD : MD ad) (x1 : Int32) (x2 : Int32) (x3 : Int32) (u : MS) (Post : Int32 → MS → Prop) (h : mw_tray x1 x2 x3 u Post) : Met l yX7_tray (ws_ yX7_tray cX7_tray 5 (Option.some Jvm.ClassFile.FieldType.boolean)) (jm_rm 1 21) (jm_Pc D dA ad u [.int x1, .int x2, .int x3]) (va_Qi (fun r u => Post r u ∧ jj_z r) (jm_B D dA ad) (AM ad)) 0 0 (AM ad) := by
  refine jm_start [.int x1, .int x2, .int x3] [(0, .ref (ad 0)), (1, .int x1), (2, .int x2), (3, .int x3)] (by decide) (Nat.le_of_ble_eq_true rfl) rfl (fun X hX hK => ?_)
  unfold mw_tray at h
  refine jj_iload_n hX dX7_tray_0 1 rfl 1 rfl ?_
  refine kmw_isTray hX MW.keeps q1639 (Nat.le_of_ble_eq_true rfl) (Nat.le_of_ble_eq_true rfl) (Nat.zero_le _) (Nat.zero_le _) (Nat.le_of_ble_eq_true rfl) dX7_tray_1 4 rfl h (fun r1 hb1 h => ?_)
  refine jj_if_eq hX dX7_tray_4 26 7 (by decide) rfl (fun c4 => ?_) (fun c4 => ?_)
  · have h := h.1 c4
    refine jj_sub (lv2 := [(0, .ref (ad 0))]) [0] rfl ?_
    exact tmw_tray_B26 hX hK hD h
  · have h := h.2 c4
    refine jj_iload_n hX dX7_tray_7 2 rfl 8 rfl ?_
    refine jj_if_lt hX dX7_tray_8 26 11 (by decide) rfl (fun c8 => ?_) (fun c8 => ?_)
    · have h := h.1 c8
      refine jj_sub (lv2 := [(0, .ref (ad 0))]) [0] rfl ?_
      exact tmw_tray_B26 hX hK hD h
    · have h := h.2 c8
      refine jj_iload_n hX dX7_tray_11 2 rfl 12 rfl ?_
      refine jj_iconst hX dX7_tray_12 ci_3 13 rfl ?_
      refine jj_icmp_gt hX dX7_tray_13 26 16 (by decide) rfl (fun c13 => ?_) (fun c13 => ?_)
      · have h := h.1 c13
        refine jj_sub (lv2 := [(0, .ref (ad 0))]) [0] rfl ?_
        exact tmw_tray_B26 hX hK hD h
      · have h := h.2 c13
        refine jj_iload_n hX dX7_tray_16 3 rfl 17 rfl ?_
        refine jj_if_lt hX dX7_tray_17 26 20 (by decide) rfl (fun c17 => ?_) (fun c17 => ?_)
        · have h := h.1 c17
          refine jj_sub (lv2 := [(0, .ref (ad 0))]) [0] rfl ?_
          exact tmw_tray_B26 hX hK hD h
        · have h := h.2 c17
          refine jj_iload_n hX dX7_tray_20 3 rfl 21 rfl ?_
          refine jj_bipush hX dX7_tray_21 cb_60 23 rfl ?_
          refine jj_icmp_le hX dX7_tray_23 32 26 (by decide) rfl (fun c23 => ?_) (fun c23 => ?_)
          · have h := h.1 c23
            refine jt_4 hX hK dX7_tray_32 0 rfl dX7_tray_33 q1488 36 rfl rfl ?_
            refine jj_iload_n hX dX7_tray_36 1 rfl 37 rfl ?_
            refine jj_iload_n hX dX7_tray_37 2 rfl 38 rfl ?_
            obtain ⟨hi38, h⟩ := h
            refine jw_2 hX hK hD _ rfl hi38 dX7_tray_38 39 rfl (fun u38 e38 => ?_)
            have h := h u38 e38
            refine jt_5 hX hK dX7_tray_39 0 rfl dX7_tray_40 q1489 43 rfl rfl ?_
            refine jj_iload_n hX dX7_tray_43 1 rfl 44 rfl ?_
            refine jj_iload_n hX dX7_tray_44 3 rfl 45 rfl ?_
            obtain ⟨hi45, h⟩ := h
            refine jw_3 hX hK hD _ rfl hi45 dX7_tray_45 46 rfl (fun u45 e45 => ?_)
            have h := h u45 e45
            refine jj_iconst hX dX7_tray_46 ci_0 47 rfl ?_
            refine jj_istore (lv2 := [(0, .ref (ad 0)), (1, .int x1), (3, .int x3), (4, .int (0 : Int32))]) hX dX7_tray_47 (Nat.le_of_ble_eq_true rfl) [1, 2, 4, 0] rfl 49 rfl ?_
            obtain ⟨n9, h⟩ := h
            exact tmw_tray_L49 hX hK hD n9 _ _ h
          · have h := h.2 c23
            refine jj_sub (lv2 := [(0, .ref (ad 0))]) [0] rfl ?_
            exact tmw_tray_B26 hX hK hD h
theorem hd_mw_tray : yX7_tray.cls = RX7 ∧ yX7_tray.cls ≠ "java/lang/invoke/MethodHandle" ∧ yX7_tray.cls ≠ "java/lang/invoke/VarHandle" ∧ (parseMethodDescriptor yX7_tray.desc).map (fun d => d.parameters.length) = some 3 := by decide +kernel
theorem kmw_tray {X : JC} {Q : State → Prop} {nL k n pc : Nat} {lv : List (Nat × Value)} {st : List Value} {own : String} {cc : ByteArray} {ret : Option FieldType} {F LL mc ms ix : Nat} {D : va_G} {dA ad : Nat → Nat} {x1 : Int32} {x2 : Int32} {x3 : Int32} {u : MS} {Post : Int32 → MS → Prop} (hX : JX X own cc nL ret F LL mc ms) (hK : KM D dA (jj_s X)) (hD : MD ad) (hlk : (Cond.methodLink own ix yX7_tray) ∈ lw_all) (hF : 1 + 1 ≤ F) (hL : 8 + (5 + 11) + 21 ≤ LL) (hk : k ≤ mc) (hk2 : n ≤ ms) (hw : (st.map fun v => v.category).sum ≤ 8) (d : decode cc pc = .ok (.invokevirtual ix, 3)) (q : Nat) (hq : pc + 3 = q) (h : mw_tray x1 x2 x3 u Post) (kk : ∀ (r : Int32) (u2 : MS), jj_z r → Post r u2 → JJ X (AM ad) Q nL (MW D dA ad u2) k n q lv (.int r :: st)) : JJ X (AM ad) Q nL (MW D dA ad u) k n pc lv (.int x3 :: .int x2 :: .int x1 :: .ref (ad 0) :: st) :=
  jm_callz (na := 3) (As := [.int x1, .int x2, .int x3]) hX hK (mmw_tray (jj_l X) D dA ad hD x1 x2 x3 u Post h) hlk q1636 q1637 q129 q1638 hd_mw_tray rfl rfl hw hF hL hk hk2 d q hq kk
/-- RaisedPressModel.wrongPlace(II)I -/
def mw_wrongPlace (x1 : Int32) (x2 : Int32) (u : MS) (Post : Int32 → MS → Prop) : Prop :=
  mw_isTray x1 (fun r1 =>
    (¬ r1 = 0 →
      vp_in x1 4 ∧
      (¬ (jm_i u 3 x1.toNatClampNeg) = (-1 : Int32) →
        (x2 < 0 →
          Post (3 : Int32) u) ∧
        (¬ x2 < 0 →
          vp_in x1 4 ∧
          (x2 < (jm_i u 3 x1.toNatClampNeg) →
            Post (0 : Int32) u) ∧
          (¬ x2 < (jm_i u 3 x1.toNatClampNeg) →
            Post (3 : Int32) u))) ∧
      ((jm_i u 3 x1.toNatClampNeg) = (-1 : Int32) →
        Post (2 : Int32) u)) ∧
    (r1 = 0 →
      Post (1 : Int32) u))
set_option maxHeartbeats 4000000 in
set_option maxRecDepth 100000 in
theorem mmw_wrongPlace (l : Launch) (D : va_G) (dA ad : Nat → Nat) (hD : MD ad) (x1 : Int32) (x2 : Int32) (u : MS) (Post : Int32 → MS → Prop) (h : mw_wrongPlace x1 x2 u Post) : Met l yX7_wrongPlace (ws_ yX7_wrongPlace cX7_wrongPlace 3 (Option.some Jvm.ClassFile.FieldType.int)) (jm_rm 1 20) (jm_Pc D dA ad u [.int x1, .int x2]) (va_Qi Post (jm_B D dA ad) (AM ad)) 0 0 (AM ad) := by
  refine jm_start [.int x1, .int x2] [(0, .ref (ad 0)), (1, .int x1), (2, .int x2)] (by decide) (Nat.le_of_ble_eq_true rfl) rfl (fun X hX hK => ?_)
  unfold mw_wrongPlace at h
  refine jj_iload_n hX dX7_wrongPlace_0 1 rfl 1 rfl ?_
  refine kmw_isTray hX MW.keeps q1639 (Nat.le_of_ble_eq_true rfl) (Nat.le_of_ble_eq_true rfl) (Nat.zero_le _) (Nat.zero_le _) (Nat.le_of_ble_eq_true rfl) dX7_wrongPlace_1 4 rfl h (fun r1 hb1 h => ?_)
  refine jj_if_ne hX dX7_wrongPlace_4 11 7 (by decide) rfl (fun c4 => ?_) (fun c4 => ?_)
  · have h := h.1 c4
    refine jt_5 hX hK dX7_wrongPlace_11 0 rfl dX7_wrongPlace_12 q1489 15 rfl rfl ?_
    refine jj_iload_n hX dX7_wrongPlace_15 1 rfl 16 rfl ?_
    obtain ⟨hi16, h⟩ := h
    refine jr_3 hX hK _ rfl hi16 dX7_wrongPlace_16 17 rfl ?_
    refine jj_iconst hX dX7_wrongPlace_17 ci_m1 18 rfl ?_
    refine jj_icmp_ne hX dX7_wrongPlace_18 25 21 (by decide) rfl (fun c18 => ?_) (fun c18 => ?_)
    · have h := h.1 c18
      refine jj_iload_n hX dX7_wrongPlace_25 2 rfl 26 rfl ?_
      refine jj_if_lt hX dX7_wrongPlace_26 39 29 (by decide) rfl (fun c26 => ?_) (fun c26 => ?_)
      · have h := h.1 c26
        refine jj_iconst hX dX7_wrongPlace_39 ci_3 40 rfl ?_
        refine jj_goto hX dX7_wrongPlace_40 44 (by decide) ?_
        exact jj_reti (post := Post) (u := u) hX dX7_wrongPlace_44 (Nat.le_refl 0) (Nat.le_refl 0) jm_hB h
      · have h := h.2 c26
        refine jj_iload_n hX dX7_wrongPlace_29 2 rfl 30 rfl ?_
        refine jt_5 hX hK dX7_wrongPlace_30 0 rfl dX7_wrongPlace_31 q1489 34 rfl rfl ?_
        refine jj_iload_n hX dX7_wrongPlace_34 1 rfl 35 rfl ?_
        obtain ⟨hi35, h⟩ := h
        refine jr_3 hX hK _ rfl hi35 dX7_wrongPlace_35 36 rfl ?_
        refine jj_icmp_lt hX dX7_wrongPlace_36 43 39 (by decide) rfl (fun c36 => ?_) (fun c36 => ?_)
        · have h := h.1 c36
          refine jj_iconst hX dX7_wrongPlace_43 ci_0 44 rfl ?_
          exact jj_reti (post := Post) (u := u) hX dX7_wrongPlace_44 (Nat.le_refl 0) (Nat.le_refl 0) jm_hB h
        · have h := h.2 c36
          refine jj_iconst hX dX7_wrongPlace_39 ci_3 40 rfl ?_
          refine jj_goto hX dX7_wrongPlace_40 44 (by decide) ?_
          exact jj_reti (post := Post) (u := u) hX dX7_wrongPlace_44 (Nat.le_refl 0) (Nat.le_refl 0) jm_hB h
    · have h := h.2 c18
      refine jj_iconst hX dX7_wrongPlace_21 ci_2 22 rfl ?_
      refine jj_goto hX dX7_wrongPlace_22 44 (by decide) ?_
      exact jj_reti (post := Post) (u := u) hX dX7_wrongPlace_44 (Nat.le_refl 0) (Nat.le_refl 0) jm_hB h
  · have h := h.2 c4
    refine jj_iconst hX dX7_wrongPlace_7 ci_1 8 rfl ?_
    refine jj_goto hX dX7_wrongPlace_8 44 (by decide) ?_
    exact jj_reti (post := Post) (u := u) hX dX7_wrongPlace_44 (Nat.le_refl 0) (Nat.le_refl 0) jm_hB h
theorem hd_mw_wrongPlace : yX7_wrongPlace.cls = RX7 ∧ yX7_wrongPlace.cls ≠ "java/lang/invoke/MethodHandle" ∧ yX7_wrongPlace.cls ≠ "java/lang/invoke/VarHandle" ∧ (parseMethodDescriptor yX7_wrongPlace.desc).map (fun d => d.parameters.length) = some 2 := by decide +kernel
theorem kmw_wrongPlace {X : JC} {Q : State → Prop} {nL k n pc : Nat} {lv : List (Nat × Value)} {st : List Value} {own : String} {cc : ByteArray} {ret : Option FieldType} {F LL mc ms ix : Nat} {D : va_G} {dA ad : Nat → Nat} {x1 : Int32} {x2 : Int32} {u : MS} {Post : Int32 → MS → Prop} (hX : JX X own cc nL ret F LL mc ms) (hK : KM D dA (jj_s X)) (hD : MD ad) (hlk : (Cond.methodLink own ix yX7_wrongPlace) ∈ lw_all) (hF : 1 + 1 ≤ F) (hL : 8 + (3 + 11) + 20 ≤ LL) (hk : k ≤ mc) (hk2 : n ≤ ms) (hw : (st.map fun v => v.category).sum ≤ 8) (d : decode cc pc = .ok (.invokevirtual ix, 3)) (q : Nat) (hq : pc + 3 = q) (h : mw_wrongPlace x1 x2 u Post) (kk : ∀ (r : Int32) (u2 : MS), Post r u2 → JJ X (AM ad) Q nL (MW D dA ad u2) k n q lv (.int r :: st)) : JJ X (AM ad) Q nL (MW D dA ad u) k n pc lv (.int x2 :: .int x1 :: .ref (ad 0) :: st) :=
  jm_calli (na := 2) (As := [.int x1, .int x2]) hX hK (mmw_wrongPlace (jj_l X) D dA ad hD x1 x2 u Post h) hlk q1652 qs60 q129 q1653 hd_mw_wrongPlace rfl rfl hw hF hL hk hk2 d q hq kk
/-- RaisedPressModel.cut(JI)J -/
def mw_cut (x0 : Int64) (x2 : Int32) (Post : Int64 → Prop) : Prop :=
  (¬ x2 = 0 →
    (¬ x2 = (1 : Int32) →
      (¬ x2 = (2 : Int32) →
        Post x0) ∧
      (x2 = (2 : Int32) →
        Post x0.toInt32.toInt64)) ∧
    (x2 = (1 : Int32) →
      Post x0.toInt32.toInt16.toInt32.toInt64)) ∧
  (x2 = 0 →
    Post x0.toInt32.toInt8.toInt32.toInt64)
set_option maxHeartbeats 4000000 in
set_option maxRecDepth 100000 in
theorem mmw_cut (l : Launch) (x0 : Int64) (x2 : Int32) (Post : Int64 → Prop) (h : mw_cut x0 x2 Post) : Met l yX7_cut (ws_ yX7_cut cX7_cut 3 (Option.some Jvm.ClassFile.FieldType.long)) (jm_rm 0 0) (js_Pc [.long x0, .int x2]) (va_Ql (fun r (_ : Unit) => Post r) js_B js_A) 0 0 js_A := by
  refine js_start [.long x0, .int x2] [(0, .long x0), (2, .int x2)] (by decide) (Nat.le_of_ble_eq_true rfl) rfl (fun X hX => ?_)
  unfold mw_cut at h
  refine jj_iload_n hX dX7_cut_0 1 rfl 1 rfl ?_
  refine jj_if_ne hX dX7_cut_1 11 4 (by decide) rfl (fun c1 => ?_) (fun c1 => ?_)
  · have h := h.1 c1
    refine jj_iload_n hX dX7_cut_11 1 rfl 12 rfl ?_
    refine jj_iconst hX dX7_cut_12 ci_1 13 rfl ?_
    refine jj_icmp_ne hX dX7_cut_13 23 16 (by decide) rfl (fun c13 => ?_) (fun c13 => ?_)
    · have h := h.1 c13
      refine jj_iload_n hX dX7_cut_23 1 rfl 24 rfl ?_
      refine jj_iconst hX dX7_cut_24 ci_2 25 rfl ?_
      refine jj_icmp_ne hX dX7_cut_25 34 28 (by decide) rfl (fun c25 => ?_) (fun c25 => ?_)
      · have h := h.1 c25
        refine jj_lload_n hX dX7_cut_34 0 rfl 35 rfl ?_
        exact jj_retl (post := (fun r (_ : Unit) => Post r)) (u := ()) hX dX7_cut_35 (Nat.le_refl 0) (Nat.le_refl 0) js_hB h
      · have h := h.2 c25
        refine jj_lload_n hX dX7_cut_28 0 rfl 29 rfl ?_
        refine jj_l2i hX dX7_cut_29 30 rfl ?_
        refine jj_i2l hX dX7_cut_30 31 rfl ?_
        refine jj_goto hX dX7_cut_31 35 (by decide) ?_
        exact jj_retl (post := (fun r (_ : Unit) => Post r)) (u := ()) hX dX7_cut_35 (Nat.le_refl 0) (Nat.le_refl 0) js_hB h
    · have h := h.2 c13
      refine jj_lload_n hX dX7_cut_16 0 rfl 17 rfl ?_
      refine jj_l2i hX dX7_cut_17 18 rfl ?_
      refine jj_i2s hX dX7_cut_18 19 rfl ?_
      refine jj_i2l hX dX7_cut_19 20 rfl ?_
      refine jj_goto hX dX7_cut_20 35 (by decide) ?_
      exact jj_retl (post := (fun r (_ : Unit) => Post r)) (u := ()) hX dX7_cut_35 (Nat.le_refl 0) (Nat.le_refl 0) js_hB h
  · have h := h.2 c1
    refine jj_lload_n hX dX7_cut_4 0 rfl 5 rfl ?_
    refine jj_l2i hX dX7_cut_5 6 rfl ?_
    refine jj_i2b hX dX7_cut_6 7 rfl ?_
    refine jj_i2l hX dX7_cut_7 8 rfl ?_
    refine jj_goto hX dX7_cut_8 35 (by decide) ?_
    exact jj_retl (post := (fun r (_ : Unit) => Post r)) (u := ()) hX dX7_cut_35 (Nat.le_refl 0) (Nat.le_refl 0) js_hB h
theorem hd_mw_cut : yX7_cut.cls ≠ "java/lang/invoke/MethodHandle" ∧ yX7_cut.cls ≠ "java/lang/invoke/VarHandle" ∧ (parseMethodDescriptor yX7_cut.desc).map (fun d => d.parameters.length) = some 2 := by decide +kernel
theorem kmw_cut {X : JC} {A : Nat → Prop} {Q : State → Prop} {P : Heap → Prop} {nL k n pc : Nat} {lv : List (Nat × Value)} {st : List Value} {own : String} {cc : ByteArray} {ret : Option FieldType} {F LL mc ms ix : Nat} {x0 : Int64} {x2 : Int32} {Post : Int64 → Prop} (hX : JX X own cc nL ret F LL mc ms) (hKP : jj_Keeps P) (hlk : (Cond.methodLink own ix yX7_cut) ∈ lw_all) (hF : 0 + 1 ≤ F) (hL : 8 + (3 + 11) + 0 ≤ LL) (hk : k ≤ mc) (hk2 : n ≤ ms) (hw : (st.map fun v => v.category).sum ≤ 8) (d : decode cc pc = .ok (.invokestatic ix, 3)) (q : Nat) (hq : pc + 3 = q) (h : mw_cut x0 x2 Post) (kk : ∀ r : Int64, Post r → JJ X A Q nL P k n q lv (.long r :: st)) : JJ X A Q nL P k n pc lv (.int x2 :: .long x0 :: st) :=
  js_calll (na := 2) (As := [.long x0, .int x2]) hX hKP (mmw_cut (jj_l X) x0 x2 Post h) hlk q1655 q129 q1656 hd_mw_cut rfl rfl hw hF hL hk hk2 d q hq kk
/-- RaisedPressModel.write(IIJ)Z -/
def mw_write (x1 : Int32) (x2 : Int32) (x3 : Int64) (u : MS) (Post : Int32 → MS → Prop) : Prop :=
  mw_wrongPlace x1 x2 u (fun r3 u3 =>
    (¬ r3 = 0 →
      mw_is r3 u3 (fun r37 u37 =>
        Post r37 u37)) ∧
    (r3 = 0 →
      vp_in x1 4 ∧
      mw_cut x3 (jm_i u3 2 x1.toNatClampNeg) (fun r30 =>
        vp_in (((60 : Int32) * x1) + x2) 240 ∧
        ∀ u33 : MS, u33 = jm_sl u3 4 (((60 : Int32) * x1) + x2).toNatClampNeg r30 →
        mw_is r3 u33 (fun r37 u37 =>
          Post r37 u37))))
set_option maxHeartbeats 4000000 in
set_option maxRecDepth 100000 in
theorem mmw_write (l : Launch) (D : va_G) (dA ad : Nat → Nat) (hD : MD ad) (x1 : Int32) (x2 : Int32) (x3 : Int64) (u : MS) (Post : Int32 → MS → Prop) (h : mw_write x1 x2 x3 u Post) : Met l yX7_write (ws_ yX7_write cX7_write 6 (Option.some Jvm.ClassFile.FieldType.boolean)) (jm_rm 2 42) (jm_Pc D dA ad u [.int x1, .int x2, .long x3]) (va_Qi (fun r u => Post r u ∧ jj_z r) (jm_B D dA ad) (AM ad)) 0 0 (AM ad) := by
  refine jm_start [.int x1, .int x2, .long x3] [(0, .ref (ad 0)), (1, .int x1), (2, .int x2), (3, .long x3)] (by decide) (Nat.le_of_ble_eq_true rfl) rfl (fun X hX hK => ?_)
  unfold mw_write at h
  refine jj_aload_n hX dX7_write_0 0 rfl 1 rfl ?_
  refine jj_iload_n hX dX7_write_1 1 rfl 2 rfl ?_
  refine jj_iload_n hX dX7_write_2 2 rfl 3 rfl ?_
  refine kmw_wrongPlace hX hK hD q1650 (Nat.le_of_ble_eq_true rfl) (Nat.le_of_ble_eq_true rfl) (Nat.zero_le _) (Nat.zero_le _) (Nat.le_of_ble_eq_true rfl) dX7_write_3 6 rfl h (fun r3 u3 h => ?_)
  refine jj_istore (lv2 := [(0, .ref (ad 0)), (1, .int x1), (2, .int x2), (3, .long x3), (5, .int r3)]) hX dX7_write_6 (Nat.le_of_ble_eq_true rfl) [1, 2, 3, 4, 0] rfl 8 rfl ?_
  refine jj_iload hX dX7_write_8 4 rfl 10 rfl ?_
  refine jj_if_ne hX dX7_write_10 34 13 (by decide) rfl (fun c10 => ?_) (fun c10 => ?_)
  · have h := h.1 c10
    refine jj_aload_n hX dX7_write_34 0 rfl 35 rfl ?_
    refine jj_iload hX dX7_write_35 4 rfl 37 rfl ?_
    refine kmw_is hX hK hD q1642 (Nat.le_of_ble_eq_true rfl) (Nat.le_of_ble_eq_true rfl) (Nat.zero_le _) (Nat.zero_le _) (Nat.le_of_ble_eq_true rfl) dX7_write_37 40 rfl h (fun r37 u37 hb37 h => ?_)
    exact jj_retz (post := Post) (u := u37) hX dX7_write_40 (Nat.le_refl 0) (Nat.le_refl 0) jm_hB hb37 h
  · have h := h.2 c10
    refine jt_6 hX hK dX7_write_13 0 rfl dX7_write_14 q1490 17 rfl rfl ?_
    refine jj_bipush hX dX7_write_17 cb_60 19 rfl ?_
    refine jj_iload_n hX dX7_write_19 1 rfl 20 rfl ?_
    refine jj_imul hX dX7_write_20 21 rfl ?_
    refine jj_iload_n hX dX7_write_21 2 rfl 22 rfl ?_
    refine jj_iadd hX dX7_write_22 23 rfl ?_
    refine jj_lload_n hX dX7_write_23 3 rfl 24 rfl ?_
    refine jt_4 hX hK dX7_write_24 0 rfl dX7_write_25 q1488 28 rfl rfl ?_
    refine jj_iload_n hX dX7_write_28 1 rfl 29 rfl ?_
    obtain ⟨hi29, h⟩ := h
    refine jr_2 hX hK _ rfl hi29 dX7_write_29 30 rfl ?_
    refine kmw_cut hX MW.keeps q1654 (Nat.le_of_ble_eq_true rfl) (Nat.le_of_ble_eq_true rfl) (Nat.zero_le _) (Nat.zero_le _) (Nat.le_of_ble_eq_true rfl) dX7_write_30 33 rfl h (fun r30 h => ?_)
    obtain ⟨hi33, h⟩ := h
    refine jw_4 hX hK hD _ rfl hi33 dX7_write_33 34 rfl (fun u33 e33 => ?_)
    have h := h u33 e33
    refine jj_aload_n hX dX7_write_34 0 rfl 35 rfl ?_
    refine jj_iload hX dX7_write_35 4 rfl 37 rfl ?_
    refine kmw_is hX hK hD q1642 (Nat.le_of_ble_eq_true rfl) (Nat.le_of_ble_eq_true rfl) (Nat.zero_le _) (Nat.zero_le _) (Nat.le_of_ble_eq_true rfl) dX7_write_37 40 rfl h (fun r37 u37 hb37 h => ?_)
    exact jj_retz (post := Post) (u := u37) hX dX7_write_40 (Nat.le_refl 0) (Nat.le_refl 0) jm_hB hb37 h
theorem hd_mw_write : yX7_write.cls = RX7 ∧ yX7_write.cls ≠ "java/lang/invoke/MethodHandle" ∧ yX7_write.cls ≠ "java/lang/invoke/VarHandle" ∧ (parseMethodDescriptor yX7_write.desc).map (fun d => d.parameters.length) = some 3 := by decide +kernel
theorem kmw_write {X : JC} {Q : State → Prop} {nL k n pc : Nat} {lv : List (Nat × Value)} {st : List Value} {own : String} {cc : ByteArray} {ret : Option FieldType} {F LL mc ms ix : Nat} {D : va_G} {dA ad : Nat → Nat} {x1 : Int32} {x2 : Int32} {x3 : Int64} {u : MS} {Post : Int32 → MS → Prop} (hX : JX X own cc nL ret F LL mc ms) (hK : KM D dA (jj_s X)) (hD : MD ad) (hlk : (Cond.methodLink own ix yX7_write) ∈ lw_all) (hF : 2 + 1 ≤ F) (hL : 8 + (6 + 11) + 42 ≤ LL) (hk : k ≤ mc) (hk2 : n ≤ ms) (hw : (st.map fun v => v.category).sum ≤ 8) (d : decode cc pc = .ok (.invokevirtual ix, 3)) (q : Nat) (hq : pc + 3 = q) (h : mw_write x1 x2 x3 u Post) (kk : ∀ (r : Int32) (u2 : MS), jj_z r → Post r u2 → JJ X (AM ad) Q nL (MW D dA ad u2) k n q lv (.int r :: st)) : JJ X (AM ad) Q nL (MW D dA ad u) k n pc lv (.long x3 :: .int x2 :: .int x1 :: .ref (ad 0) :: st) :=
  jm_callz (na := 3) (As := [.int x1, .int x2, .long x3]) hX hK (mmw_write (jj_l X) D dA ad hD x1 x2 x3 u Post h) hlk q1647 q1648 q129 q1649 hd_mw_write rfl rfl hw hF hL hk hk2 d q hq kk
/-- RaisedPressModel.read(II)J -/
def mw_read (x1 : Int32) (x2 : Int32) (u : MS) (Post : Int64 → MS → Prop) : Prop :=
  mw_wrongPlace x1 x2 u (fun r4 u4 =>
    ∀ u7 : MS, u7 = jm_s u4 0 1 r4 →
    ((jm_i u7 0 1) ≤ 0 →
      vp_in (((60 : Int32) * x1) + x2) 240 ∧
      Post (jm_l u7 4 (((60 : Int32) * x1) + x2).toNatClampNeg) u7) ∧
    (¬ (jm_i u7 0 1) ≤ 0 →
      Post (-1 : Int64) u7))
set_option maxHeartbeats 4000000 in
set_option maxRecDepth 100000 in
theorem mmw_read (l : Launch) (D : va_G) (dA ad : Nat → Nat) (hD : MD ad) (x1 : Int32) (x2 : Int32) (u : MS) (Post : Int64 → MS → Prop) (h : mw_read x1 x2 u Post) : Met l yX7_read (ws_ yX7_read cX7_read 3 (Option.some Jvm.ClassFile.FieldType.long)) (jm_rm 2 42) (jm_Pc D dA ad u [.int x1, .int x2]) (va_Ql Post (jm_B D dA ad) (AM ad)) 0 0 (AM ad) := by
  refine jm_start [.int x1, .int x2] [(0, .ref (ad 0)), (1, .int x1), (2, .int x2)] (by decide) (Nat.le_of_ble_eq_true rfl) rfl (fun X hX hK => ?_)
  unfold mw_read at h
  refine jj_aload_n hX dX7_read_0 0 rfl 1 rfl ?_
  refine jj_aload_n hX dX7_read_1 0 rfl 2 rfl ?_
  refine jj_iload_n hX dX7_read_2 1 rfl 3 rfl ?_
  refine jj_iload_n hX dX7_read_3 2 rfl 4 rfl ?_
  refine kmw_wrongPlace hX hK hD q1650 (Nat.le_of_ble_eq_true rfl) (Nat.le_of_ble_eq_true rfl) (Nat.zero_le _) (Nat.zero_le _) (Nat.le_of_ble_eq_true rfl) dX7_read_4 7 rfl h (fun r4 u4 h => ?_)
  refine jp_1 hX hK hD dX7_read_7 q1485 10 rfl (fun u7 e7 => ?_)
  have h := h u7 e7
  refine jt_1 hX hK dX7_read_10 0 rfl dX7_read_11 q1485 14 rfl rfl ?_
  refine jj_if_le hX dX7_read_14 23 17 (by decide) rfl (fun c14 => ?_) (fun c14 => ?_)
  · have h := h.1 c14
    refine jt_6 hX hK dX7_read_23 0 rfl dX7_read_24 q1490 27 rfl rfl ?_
    refine jj_bipush hX dX7_read_27 cb_60 29 rfl ?_
    refine jj_iload_n hX dX7_read_29 1 rfl 30 rfl ?_
    refine jj_imul hX dX7_read_30 31 rfl ?_
    refine jj_iload_n hX dX7_read_31 2 rfl 32 rfl ?_
    refine jj_iadd hX dX7_read_32 33 rfl ?_
    obtain ⟨hi33, h⟩ := h
    refine jr_4 hX hK _ rfl hi33 dX7_read_33 34 rfl ?_
    exact jj_retl (post := Post) (u := u7) hX dX7_read_34 (Nat.le_refl 0) (Nat.le_refl 0) jm_hB h
  · have h := h.2 c14
    refine jj_ldc2 (v := -1) hX dX7_read_17 q1661 20 rfl ?_
    refine jj_goto hX dX7_read_20 34 (by decide) ?_
    exact jj_retl (post := Post) (u := u7) hX dX7_read_34 (Nat.le_refl 0) (Nat.le_refl 0) jm_hB h
theorem hd_mw_read : yX7_read.cls = RX7 ∧ yX7_read.cls ≠ "java/lang/invoke/MethodHandle" ∧ yX7_read.cls ≠ "java/lang/invoke/VarHandle" ∧ (parseMethodDescriptor yX7_read.desc).map (fun d => d.parameters.length) = some 2 := by decide +kernel
theorem kmw_read {X : JC} {Q : State → Prop} {nL k n pc : Nat} {lv : List (Nat × Value)} {st : List Value} {own : String} {cc : ByteArray} {ret : Option FieldType} {F LL mc ms ix : Nat} {D : va_G} {dA ad : Nat → Nat} {x1 : Int32} {x2 : Int32} {u : MS} {Post : Int64 → MS → Prop} (hX : JX X own cc nL ret F LL mc ms) (hK : KM D dA (jj_s X)) (hD : MD ad) (hlk : (Cond.methodLink own ix yX7_read) ∈ lw_all) (hF : 2 + 1 ≤ F) (hL : 8 + (3 + 11) + 42 ≤ LL) (hk : k ≤ mc) (hk2 : n ≤ ms) (hw : (st.map fun v => v.category).sum ≤ 8) (d : decode cc pc = .ok (.invokevirtual ix, 3)) (q : Nat) (hq : pc + 3 = q) (h : mw_read x1 x2 u Post) (kk : ∀ (r : Int64) (u2 : MS), Post r u2 → JJ X (AM ad) Q nL (MW D dA ad u2) k n q lv (.long r :: st)) : JJ X (AM ad) Q nL (MW D dA ad u) k n pc lv (.int x2 :: .int x1 :: .ref (ad 0) :: st) :=
  jm_calll (na := 2) (As := [.int x1, .int x2]) hX hK (mmw_read (jj_l X) D dA ad hD x1 x2 u Post h) hlk q1658 q1659 q129 q1660 hd_mw_read rfl rfl hw hF hL hk hk2 d q hq kk
def mw_pour_B28 (Post : Int32 → MS → Prop) (u : MS) : Prop :=
  mw_is (1 : Int32) u (fun r30 u30 =>
    Post r30 u30)
def mw_pour_B143 (K118 : Int32 → MS → Prop) (Post : Int32 → MS → Prop) (x1 : Int32) (x2 : Int32) (x3 : Int32) (x4 : Int32) (x5 : Int32) (x6 : Int32) (s0 : Int32) (u : MS) : Prop :=
  vp_in ((((60 : Int32) * x1) + x2) + s0) 240 ∧
  vp_in ((((60 : Int32) * x3) + x4) + s0) 240 ∧
  ∀ u173 : MS, u173 = jm_sl u 4 ((((60 : Int32) * x3) + x4) + s0).toNatClampNeg (jm_l u 4 ((((60 : Int32) * x1) + x2) + s0).toNatClampNeg) →
  ∀ v174 : Int32, v174 = x6 + (1 : Int32) →
  K118 v174 u173
def mw_pour_L118_S (Post : Int32 → MS → Prop) (x1 : Int32) (x2 : Int32) (x3 : Int32) (x4 : Int32) (x5 : Int32) (R : Int32 → MS → Prop) (x6 : Int32) (u : MS) : Prop :=
  (x5 ≤ x6 →
    mw_is (0 : Int32) u (fun r182 u182 =>
      Post r182 u182)) ∧
  (¬ x5 ≤ x6 →
    (x4 ≤ x2 →
      mw_pour_B143 R Post x1 x2 x3 x4 x5 x6 x6 u) ∧
    (¬ x4 ≤ x2 →
      mw_pour_B143 R Post x1 x2 x3 x4 x5 x6 ((x5 - (1 : Int32)) - x6) u))
def mw_pour_L118 (Post : Int32 → MS → Prop) (x1 : Int32) (x2 : Int32) (x3 : Int32) (x4 : Int32) (x5 : Int32) : Nat → Int32 → MS → Prop
  | 0 => fun _ _ => False
  | n + 1 => fun x6 u => mw_pour_L118_S Post x1 x2 x3 x4 x5 (mw_pour_L118 Post x1 x2 x3 x4 x5 n) x6 u
/-- RaisedPressModel.pour(IIIII)Z -/
def mw_pour (x1 : Int32) (x2 : Int32) (x3 : Int32) (x4 : Int32) (x5 : Int32) (u : MS) (Post : Int32 → MS → Prop) : Prop :=
  mw_isTray x1 (fun r1 =>
    (r1 = 0 →
      mw_pour_B28 Post u) ∧
    (¬ r1 = 0 →
      mw_isTray x3 (fun r8 =>
        (r8 = 0 →
          mw_pour_B28 Post u) ∧
        (¬ r8 = 0 →
          (x2 < 0 →
            mw_pour_B28 Post u) ∧
          (¬ x2 < 0 →
            (x4 < 0 →
              mw_pour_B28 Post u) ∧
            (¬ x4 < 0 →
              (0 ≤ x5 →
                vp_in x1 4 ∧
                ((jm_i u 3 x1.toNatClampNeg) = (-1 : Int32) →
                  mw_is (2 : Int32) u (fun r56 u56 =>
                    Post r56 u56)) ∧
                (¬ (jm_i u 3 x1.toNatClampNeg) = (-1 : Int32) →
                  vp_in x3 4 ∧
                  (¬ (jm_i u 3 x3.toNatClampNeg) = (-1 : Int32) →
                    vp_in x1 4 ∧
                    vp_in x3 4 ∧
                    ((jm_i u 2 x1.toNatClampNeg) = (jm_i u 2 x3.toNatClampNeg) →
                      vp_in x1 4 ∧
                      (((jm_i u 3 x1.toNatClampNeg) - x2) < x5 →
                        mw_is (3 : Int32) u (fun r111 u111 =>
                          Post r111 u111)) ∧
                      (¬ ((jm_i u 3 x1.toNatClampNeg) - x2) < x5 →
                        vp_in x3 4 ∧
                        (x5 ≤ ((jm_i u 3 x3.toNatClampNeg) - x4) →
                          ∃ n, mw_pour_L118 Post x1 x2 x3 x4 x5 n (0 : Int32) u) ∧
                        (¬ x5 ≤ ((jm_i u 3 x3.toNatClampNeg) - x4) →
                          mw_is (3 : Int32) u (fun r111 u111 =>
                            Post r111 u111)))) ∧
                    (¬ (jm_i u 2 x1.toNatClampNeg) = (jm_i u 2 x3.toNatClampNeg) →
                      mw_is (8 : Int32) u (fun r78 u78 =>
                        Post r78 u78))) ∧
                  ((jm_i u 3 x3.toNatClampNeg) = (-1 : Int32) →
                    mw_is (2 : Int32) u (fun r56 u56 =>
                      Post r56 u56)))) ∧
              (¬ 0 ≤ x5 →
                mw_pour_B28 Post u)))))))
set_option maxHeartbeats 4000000 in
set_option maxRecDepth 100000 in
theorem tmw_pour_B28 {X : JC} {D : va_G} {dA ad : Nat → Nat} {Post : Int32 → MS → Prop} {u : MS} (hX : JX X yX7_pour.cls cX7_pour 8 (Option.some Jvm.ClassFile.FieldType.boolean) 1 21 0 0) (hK : KM D dA (jj_s X)) (hD : MD ad) (h : mw_pour_B28 Post  u) : JJ X (AM ad) (jj_Q X (va_Qi (fun r u => Post r u ∧ jj_z r) (jm_B D dA ad) (AM ad)) 0 0 (AM ad)) 8 (MW D dA ad u) 0 0 28 [(0, .ref (ad 0))] [] := by
  unfold mw_pour_B28 at h
  refine jj_aload_n hX dX7_pour_28 0 rfl 29 rfl ?_
  refine jj_iconst hX dX7_pour_29 ci_1 30 rfl ?_
  refine kmw_is hX hK hD q1642 (Nat.le_of_ble_eq_true rfl) (Nat.le_of_ble_eq_true rfl) (Nat.zero_le _) (Nat.zero_le _) (Nat.le_of_ble_eq_true rfl) dX7_pour_30 33 rfl h (fun r30 u30 hb30 h => ?_)
  exact jj_retz (post := Post) (u := u30) hX dX7_pour_33 (Nat.le_refl 0) (Nat.le_refl 0) jm_hB hb30 h
set_option maxHeartbeats 4000000 in
set_option maxRecDepth 100000 in
theorem tmw_pour_B143 {X : JC} {D : va_G} {dA ad : Nat → Nat} {K118 : Int32 → MS → Prop} {Post : Int32 → MS → Prop} {x1 : Int32} {x2 : Int32} {x3 : Int32} {x4 : Int32} {x5 : Int32} {x6 : Int32} {s0 : Int32} {u : MS} (hX : JX X yX7_pour.cls cX7_pour 8 (Option.some Jvm.ClassFile.FieldType.boolean) 1 21 0 0) (hK : KM D dA (jj_s X)) (hD : MD ad) (hK118 : ∀ (y6 : Int32) (u : MS), K118 y6 u → JJ X (AM ad) (jj_Q X (va_Qi (fun r u => Post r u ∧ jj_z r) (jm_B D dA ad) (AM ad)) 0 0 (AM ad)) 8 (MW D dA ad u) 0 0 118 [(0, .ref (ad 0)), (1, .int x1), (2, .int x2), (3, .int x3), (4, .int x4), (5, .int x5), (6, .int y6)] []) (h : mw_pour_B143 K118 Post x1 x2 x3 x4 x5 x6 s0 u) : JJ X (AM ad) (jj_Q X (va_Qi (fun r u => Post r u ∧ jj_z r) (jm_B D dA ad) (AM ad)) 0 0 (AM ad)) 8 (MW D dA ad u) 0 0 143 [(0, .ref (ad 0)), (1, .int x1), (2, .int x2), (3, .int x3), (4, .int x4), (5, .int x5), (6, .int x6)] [.int s0] := by
  unfold mw_pour_B143 at h
  refine jj_istore (lv2 := [(0, .ref (ad 0)), (1, .int x1), (2, .int x2), (3, .int x3), (4, .int x4), (5, .int x5), (6, .int x6), (7, .int s0)]) hX dX7_pour_143 (Nat.le_of_ble_eq_true rfl) [1, 2, 3, 4, 5, 6, 7, 0] rfl 145 rfl ?_
  refine jt_6 hX hK dX7_pour_145 0 rfl dX7_pour_146 q1490 149 rfl rfl ?_
  refine jj_bipush hX dX7_pour_149 cb_60 151 rfl ?_
  refine jj_iload_n hX dX7_pour_151 3 rfl 152 rfl ?_
  refine jj_imul hX dX7_pour_152 153 rfl ?_
  refine jj_iload hX dX7_pour_153 4 rfl 155 rfl ?_
  refine jj_iadd hX dX7_pour_155 156 rfl ?_
  refine jj_iload hX dX7_pour_156 7 rfl 158 rfl ?_
  refine jj_iadd hX dX7_pour_158 159 rfl ?_
  refine jt_6 hX hK dX7_pour_159 0 rfl dX7_pour_160 q1490 163 rfl rfl ?_
  refine jj_bipush hX dX7_pour_163 cb_60 165 rfl ?_
  refine jj_iload_n hX dX7_pour_165 1 rfl 166 rfl ?_
  refine jj_imul hX dX7_pour_166 167 rfl ?_
  refine jj_iload_n hX dX7_pour_167 2 rfl 168 rfl ?_
  refine jj_iadd hX dX7_pour_168 169 rfl ?_
  refine jj_iload hX dX7_pour_169 7 rfl 171 rfl ?_
  refine jj_iadd hX dX7_pour_171 172 rfl ?_
  obtain ⟨hi172, h⟩ := h
  refine jr_4 hX hK _ rfl hi172 dX7_pour_172 173 rfl ?_
  obtain ⟨hi173, h⟩ := h
  refine jw_4 hX hK hD _ rfl hi173 dX7_pour_173 174 rfl (fun u173 e173 => ?_)
  have h := h u173 e173
  obtain ⟨v174, e174⟩ : ∃ y : Int32, y = x6 + (1 : Int32) := ⟨_, rfl⟩
  have h := h v174 e174
  refine jj_iinc (v := v174) (lv2 := [(0, .ref (ad 0)), (1, .int x1), (2, .int x2), (3, .int x3), (4, .int x4), (5, .int x5), (6, .int v174), (7, .int s0)]) hX dX7_pour_174 6 rfl (by rw [e174, ci_1]) (Nat.le_of_ble_eq_true rfl) [1, 2, 3, 4, 5, 6, 0, 7] rfl 177 rfl ?_
  refine jj_goto hX dX7_pour_177 118 (by decide) ?_
  refine jj_sub (lv2 := [(0, .ref (ad 0)), (1, .int x1), (2, .int x2), (3, .int x3), (4, .int x4), (5, .int x5), (6, .int v174)]) [0, 1, 2, 3, 4, 5, 6] rfl ?_
  exact hK118 _ _ h
set_option maxHeartbeats 4000000 in
set_option maxRecDepth 100000 in
theorem tmw_pour_L118 {X : JC} {D : va_G} {dA ad : Nat → Nat} {Post : Int32 → MS → Prop} {x1 : Int32} {x2 : Int32} {x3 : Int32} {x4 : Int32} {x5 : Int32} (hX : JX X yX7_pour.cls cX7_pour 8 (Option.some Jvm.ClassFile.FieldType.boolean) 1 21 0 0) (hK : KM D dA (jj_s X)) (hD : MD ad) : ∀ (n : Nat) (x6 : Int32) (u : MS), mw_pour_L118 Post x1 x2 x3 x4 x5 n x6 u → JJ X (AM ad) (jj_Q X (va_Qi (fun r u => Post r u ∧ jj_z r) (jm_B D dA ad) (AM ad)) 0 0 (AM ad)) 8 (MW D dA ad u) 0 0 118 [(0, .ref (ad 0)), (1, .int x1), (2, .int x2), (3, .int x3), (4, .int x4), (5, .int x5), (6, .int x6)] [] := by
  intro n
  induction n with
  | zero =>
    intro x6 u h
    exact h.elim
  | succ n ih =>
    intro x6 u h
    have h : mw_pour_L118_S Post x1 x2 x3 x4 x5 (mw_pour_L118 Post x1 x2 x3 x4 x5 n) x6 u := h
    unfold mw_pour_L118_S at h
    refine jj_iload hX dX7_pour_118 6 rfl 120 rfl ?_
    refine jj_iload hX dX7_pour_120 5 rfl 122 rfl ?_
    refine jj_icmp_ge hX dX7_pour_122 180 125 (by decide) rfl (fun c122 => ?_) (fun c122 => ?_)
    · have h := h.1 c122
      refine jj_aload_n hX dX7_pour_180 0 rfl 181 rfl ?_
      refine jj_iconst hX dX7_pour_181 ci_0 182 rfl ?_
      refine kmw_is hX hK hD q1642 (Nat.le_of_ble_eq_true rfl) (Nat.le_of_ble_eq_true rfl) (Nat.zero_le _) (Nat.zero_le _) (Nat.le_of_ble_eq_true rfl) dX7_pour_182 185 rfl h (fun r182 u182 hb182 h => ?_)
      exact jj_retz (post := Post) (u := u182) hX dX7_pour_185 (Nat.le_refl 0) (Nat.le_refl 0) jm_hB hb182 h
    · have h := h.2 c122
      refine jj_iload_n hX dX7_pour_125 2 rfl 126 rfl ?_
      refine jj_iload hX dX7_pour_126 4 rfl 128 rfl ?_
      refine jj_icmp_ge hX dX7_pour_128 141 131 (by decide) rfl (fun c128 => ?_) (fun c128 => ?_)
      · have h := h.1 c128
        refine jj_iload hX dX7_pour_141 6 rfl 143 rfl ?_
        exact tmw_pour_B143 hX hK hD ih h
      · have h := h.2 c128
        refine jj_iload hX dX7_pour_131 5 rfl 133 rfl ?_
        refine jj_iconst hX dX7_pour_133 ci_1 134 rfl ?_
        refine jj_isub hX dX7_pour_134 135 rfl ?_
        refine jj_iload hX dX7_pour_135 6 rfl 137 rfl ?_
        refine jj_isub hX dX7_pour_137 138 rfl ?_
        refine jj_goto hX dX7_pour_138 143 (by decide) ?_
        exact tmw_pour_B143 hX hK hD ih h
set_option maxHeartbeats 4000000 in
set_option maxRecDepth 100000 in
theorem mmw_pour (l : Launch) (D : va_G) (dA ad : Nat → Nat) (hD : MD ad) (x1 : Int32) (x2 : Int32) (x3 : Int32) (x4 : Int32) (x5 : Int32) (u : MS) (Post : Int32 → MS → Prop) (h : mw_pour x1 x2 x3 x4 x5 u Post) : Met l yX7_pour (ws_ yX7_pour cX7_pour 8 (Option.some Jvm.ClassFile.FieldType.boolean)) (jm_rm 1 21) (jm_Pc D dA ad u [.int x1, .int x2, .int x3, .int x4, .int x5]) (va_Qi (fun r u => Post r u ∧ jj_z r) (jm_B D dA ad) (AM ad)) 0 0 (AM ad) := by
  refine jm_start [.int x1, .int x2, .int x3, .int x4, .int x5] [(0, .ref (ad 0)), (1, .int x1), (2, .int x2), (3, .int x3), (4, .int x4), (5, .int x5)] (by decide) (Nat.le_of_ble_eq_true rfl) rfl (fun X hX hK => ?_)
  unfold mw_pour at h
  refine jj_iload_n hX dX7_pour_0 1 rfl 1 rfl ?_
  refine kmw_isTray hX MW.keeps q1639 (Nat.le_of_ble_eq_true rfl) (Nat.le_of_ble_eq_true rfl) (Nat.zero_le _) (Nat.zero_le _) (Nat.le_of_ble_eq_true rfl) dX7_pour_1 4 rfl h (fun r1 hb1 h => ?_)
  refine jj_if_eq hX dX7_pour_4 28 7 (by decide) rfl (fun c4 => ?_) (fun c4 => ?_)
  · have h := h.1 c4
    refine jj_sub (lv2 := [(0, .ref (ad 0))]) [0] rfl ?_
    exact tmw_pour_B28 hX hK hD h
  · have h := h.2 c4
    refine jj_iload_n hX dX7_pour_7 3 rfl 8 rfl ?_
    refine kmw_isTray hX MW.keeps q1639 (Nat.le_of_ble_eq_true rfl) (Nat.le_of_ble_eq_true rfl) (Nat.zero_le _) (Nat.zero_le _) (Nat.le_of_ble_eq_true rfl) dX7_pour_8 11 rfl h (fun r8 hb8 h => ?_)
    refine jj_if_eq hX dX7_pour_11 28 14 (by decide) rfl (fun c11 => ?_) (fun c11 => ?_)
    · have h := h.1 c11
      refine jj_sub (lv2 := [(0, .ref (ad 0))]) [0] rfl ?_
      exact tmw_pour_B28 hX hK hD h
    · have h := h.2 c11
      refine jj_iload_n hX dX7_pour_14 2 rfl 15 rfl ?_
      refine jj_if_lt hX dX7_pour_15 28 18 (by decide) rfl (fun c15 => ?_) (fun c15 => ?_)
      · have h := h.1 c15
        refine jj_sub (lv2 := [(0, .ref (ad 0))]) [0] rfl ?_
        exact tmw_pour_B28 hX hK hD h
      · have h := h.2 c15
        refine jj_iload hX dX7_pour_18 4 rfl 20 rfl ?_
        refine jj_if_lt hX dX7_pour_20 28 23 (by decide) rfl (fun c20 => ?_) (fun c20 => ?_)
        · have h := h.1 c20
          refine jj_sub (lv2 := [(0, .ref (ad 0))]) [0] rfl ?_
          exact tmw_pour_B28 hX hK hD h
        · have h := h.2 c20
          refine jj_iload hX dX7_pour_23 5 rfl 25 rfl ?_
          refine jj_if_ge hX dX7_pour_25 34 28 (by decide) rfl (fun c25 => ?_) (fun c25 => ?_)
          · have h := h.1 c25
            refine jt_5 hX hK dX7_pour_34 0 rfl dX7_pour_35 q1489 38 rfl rfl ?_
            refine jj_iload_n hX dX7_pour_38 1 rfl 39 rfl ?_
            obtain ⟨hi39, h⟩ := h
            refine jr_3 hX hK _ rfl hi39 dX7_pour_39 40 rfl ?_
            refine jj_iconst hX dX7_pour_40 ci_m1 41 rfl ?_
            refine jj_icmp_eq hX dX7_pour_41 54 44 (by decide) rfl (fun c41 => ?_) (fun c41 => ?_)
            · have h := h.1 c41
              refine jj_aload_n hX dX7_pour_54 0 rfl 55 rfl ?_
              refine jj_iconst hX dX7_pour_55 ci_2 56 rfl ?_
              refine kmw_is hX hK hD q1642 (Nat.le_of_ble_eq_true rfl) (Nat.le_of_ble_eq_true rfl) (Nat.zero_le _) (Nat.zero_le _) (Nat.le_of_ble_eq_true rfl) dX7_pour_56 59 rfl h (fun r56 u56 hb56 h => ?_)
              exact jj_retz (post := Post) (u := u56) hX dX7_pour_59 (Nat.le_refl 0) (Nat.le_refl 0) jm_hB hb56 h
            · have h := h.2 c41
              refine jt_5 hX hK dX7_pour_44 0 rfl dX7_pour_45 q1489 48 rfl rfl ?_
              refine jj_iload_n hX dX7_pour_48 3 rfl 49 rfl ?_
              obtain ⟨hi49, h⟩ := h
              refine jr_3 hX hK _ rfl hi49 dX7_pour_49 50 rfl ?_
              refine jj_iconst hX dX7_pour_50 ci_m1 51 rfl ?_
              refine jj_icmp_ne hX dX7_pour_51 60 54 (by decide) rfl (fun c51 => ?_) (fun c51 => ?_)
              · have h := h.1 c51
                refine jt_4 hX hK dX7_pour_60 0 rfl dX7_pour_61 q1488 64 rfl rfl ?_
                refine jj_iload_n hX dX7_pour_64 1 rfl 65 rfl ?_
                obtain ⟨hi65, h⟩ := h
                refine jr_2 hX hK _ rfl hi65 dX7_pour_65 66 rfl ?_
                refine jt_4 hX hK dX7_pour_66 0 rfl dX7_pour_67 q1488 70 rfl rfl ?_
                refine jj_iload_n hX dX7_pour_70 3 rfl 71 rfl ?_
                obtain ⟨hi71, h⟩ := h
                refine jr_2 hX hK _ rfl hi71 dX7_pour_71 72 rfl ?_
                refine jj_icmp_eq hX dX7_pour_72 82 75 (by decide) rfl (fun c72 => ?_) (fun c72 => ?_)
                · have h := h.1 c72
                  refine jj_iload hX dX7_pour_82 5 rfl 84 rfl ?_
                  refine jt_5 hX hK dX7_pour_84 0 rfl dX7_pour_85 q1489 88 rfl rfl ?_
                  refine jj_iload_n hX dX7_pour_88 1 rfl 89 rfl ?_
                  obtain ⟨hi89, h⟩ := h
                  refine jr_3 hX hK _ rfl hi89 dX7_pour_89 90 rfl ?_
                  refine jj_iload_n hX dX7_pour_90 2 rfl 91 rfl ?_
                  refine jj_isub hX dX7_pour_91 92 rfl ?_
                  refine jj_icmp_gt hX dX7_pour_92 109 95 (by decide) rfl (fun c92 => ?_) (fun c92 => ?_)
                  · have h := h.1 c92
                    refine jj_aload_n hX dX7_pour_109 0 rfl 110 rfl ?_
                    refine jj_iconst hX dX7_pour_110 ci_3 111 rfl ?_
                    refine kmw_is hX hK hD q1642 (Nat.le_of_ble_eq_true rfl) (Nat.le_of_ble_eq_true rfl) (Nat.zero_le _) (Nat.zero_le _) (Nat.le_of_ble_eq_true rfl) dX7_pour_111 114 rfl h (fun r111 u111 hb111 h => ?_)
                    exact jj_retz (post := Post) (u := u111) hX dX7_pour_114 (Nat.le_refl 0) (Nat.le_refl 0) jm_hB hb111 h
                  · have h := h.2 c92
                    refine jj_iload hX dX7_pour_95 5 rfl 97 rfl ?_
                    refine jt_5 hX hK dX7_pour_97 0 rfl dX7_pour_98 q1489 101 rfl rfl ?_
                    refine jj_iload_n hX dX7_pour_101 3 rfl 102 rfl ?_
                    obtain ⟨hi102, h⟩ := h
                    refine jr_3 hX hK _ rfl hi102 dX7_pour_102 103 rfl ?_
                    refine jj_iload hX dX7_pour_103 4 rfl 105 rfl ?_
                    refine jj_isub hX dX7_pour_105 106 rfl ?_
                    refine jj_icmp_le hX dX7_pour_106 115 109 (by decide) rfl (fun c106 => ?_) (fun c106 => ?_)
                    · have h := h.1 c106
                      refine jj_iconst hX dX7_pour_115 ci_0 116 rfl ?_
                      refine jj_istore (lv2 := [(0, .ref (ad 0)), (1, .int x1), (2, .int x2), (3, .int x3), (4, .int x4), (5, .int x5), (6, .int (0 : Int32))]) hX dX7_pour_116 (Nat.le_of_ble_eq_true rfl) [1, 2, 3, 4, 5, 6, 0] rfl 118 rfl ?_
                      obtain ⟨n9, h⟩ := h
                      exact tmw_pour_L118 hX hK hD n9 _ _ h
                    · have h := h.2 c106
                      refine jj_aload_n hX dX7_pour_109 0 rfl 110 rfl ?_
                      refine jj_iconst hX dX7_pour_110 ci_3 111 rfl ?_
                      refine kmw_is hX hK hD q1642 (Nat.le_of_ble_eq_true rfl) (Nat.le_of_ble_eq_true rfl) (Nat.zero_le _) (Nat.zero_le _) (Nat.le_of_ble_eq_true rfl) dX7_pour_111 114 rfl h (fun r111 u111 hb111 h => ?_)
                      exact jj_retz (post := Post) (u := u111) hX dX7_pour_114 (Nat.le_refl 0) (Nat.le_refl 0) jm_hB hb111 h
                · have h := h.2 c72
                  refine jj_aload_n hX dX7_pour_75 0 rfl 76 rfl ?_
                  refine jj_bipush hX dX7_pour_76 cb_8 78 rfl ?_
                  refine kmw_is hX hK hD q1642 (Nat.le_of_ble_eq_true rfl) (Nat.le_of_ble_eq_true rfl) (Nat.zero_le _) (Nat.zero_le _) (Nat.le_of_ble_eq_true rfl) dX7_pour_78 81 rfl h (fun r78 u78 hb78 h => ?_)
                  exact jj_retz (post := Post) (u := u78) hX dX7_pour_81 (Nat.le_refl 0) (Nat.le_refl 0) jm_hB hb78 h
              · have h := h.2 c51
                refine jj_aload_n hX dX7_pour_54 0 rfl 55 rfl ?_
                refine jj_iconst hX dX7_pour_55 ci_2 56 rfl ?_
                refine kmw_is hX hK hD q1642 (Nat.le_of_ble_eq_true rfl) (Nat.le_of_ble_eq_true rfl) (Nat.zero_le _) (Nat.zero_le _) (Nat.le_of_ble_eq_true rfl) dX7_pour_56 59 rfl h (fun r56 u56 hb56 h => ?_)
                exact jj_retz (post := Post) (u := u56) hX dX7_pour_59 (Nat.le_refl 0) (Nat.le_refl 0) jm_hB hb56 h
          · have h := h.2 c25
            refine jj_sub (lv2 := [(0, .ref (ad 0))]) [0] rfl ?_
            exact tmw_pour_B28 hX hK hD h
theorem hd_mw_pour : yX7_pour.cls = RX7 ∧ yX7_pour.cls ≠ "java/lang/invoke/MethodHandle" ∧ yX7_pour.cls ≠ "java/lang/invoke/VarHandle" ∧ (parseMethodDescriptor yX7_pour.desc).map (fun d => d.parameters.length) = some 5 := by decide +kernel
theorem kmw_pour {X : JC} {Q : State → Prop} {nL k n pc : Nat} {lv : List (Nat × Value)} {st : List Value} {own : String} {cc : ByteArray} {ret : Option FieldType} {F LL mc ms ix : Nat} {D : va_G} {dA ad : Nat → Nat} {x1 : Int32} {x2 : Int32} {x3 : Int32} {x4 : Int32} {x5 : Int32} {u : MS} {Post : Int32 → MS → Prop} (hX : JX X own cc nL ret F LL mc ms) (hK : KM D dA (jj_s X)) (hD : MD ad) (hlk : (Cond.methodLink own ix yX7_pour) ∈ lw_all) (hF : 1 + 1 ≤ F) (hL : 8 + (8 + 11) + 21 ≤ LL) (hk : k ≤ mc) (hk2 : n ≤ ms) (hw : (st.map fun v => v.category).sum ≤ 8) (d : decode cc pc = .ok (.invokevirtual ix, 3)) (q : Nat) (hq : pc + 3 = q) (h : mw_pour x1 x2 x3 x4 x5 u Post) (kk : ∀ (r : Int32) (u2 : MS), jj_z r → Post r u2 → JJ X (AM ad) Q nL (MW D dA ad u2) k n q lv (.int r :: st)) : JJ X (AM ad) Q nL (MW D dA ad u) k n pc lv (.int x5 :: .int x4 :: .int x3 :: .int x2 :: .int x1 :: .ref (ad 0) :: st) :=
  jm_callz (na := 5) (As := [.int x1, .int x2, .int x3, .int x4, .int x5]) hX hK (mmw_pour (jj_l X) D dA ad hD x1 x2 x3 x4 x5 u Post h) hlk q1663 q1664 q129 q1665 hd_mw_pour rfl rfl hw hF hL hk hk2 d q hq kk
def mw_four_L3_S (Post : MS → Prop) (x1 : Int32) (R : Int32 → MS → Prop) (x2 : Int32) (u : MS) : Prop :=
  (x2 < 0 →
    Post u) ∧
  (¬ x2 < 0 →
    vp_in (jm_i u 0 9) 900 ∧
    ∀ u19 : MS, u19 = jm_s u 5 (jm_i u 0 9).toNatClampNeg (x1 >>> (x2 &&& 31)).toInt8.toInt32.toInt8.toInt32 →
    ∀ u27 : MS, u27 = jm_s u19 0 9 ((jm_i u19 0 9) + (1 : Int32)) →
    ∀ v30 : Int32, v30 = x2 + (-8 : Int32) →
    R v30 u27)
def mw_four_L3 (Post : MS → Prop) (x1 : Int32) : Nat → Int32 → MS → Prop
  | 0 => fun _ _ => False
  | n + 1 => fun x2 u => mw_four_L3_S Post x1 (mw_four_L3 Post x1 n) x2 u
/-- RaisedPressModel.four(I)V -/
def mw_four (x1 : Int32) (u : MS) (Post : MS → Prop) : Prop :=
  ∃ n, mw_four_L3 Post x1 n (24 : Int32) u
set_option maxHeartbeats 4000000 in
set_option maxRecDepth 100000 in
theorem tmw_four_L3 {X : JC} {D : va_G} {dA ad : Nat → Nat} {Post : MS → Prop} {x1 : Int32} (hX : JX X yX7_four.cls cX7_four 3 (Option.none : Option Jvm.ClassFile.FieldType) 0 0 0 0) (hK : KM D dA (jj_s X)) (hD : MD ad) : ∀ (n : Nat) (x2 : Int32) (u : MS), mw_four_L3 Post x1 n x2 u → JJ X (AM ad) (jj_Q X (va_Qv Post (jm_B D dA ad) (AM ad)) 0 0 (AM ad)) 3 (MW D dA ad u) 0 0 3 [(0, .ref (ad 0)), (1, .int x1), (2, .int x2)] [] := by
  intro n
  induction n with
  | zero =>
    intro x2 u h
    exact h.elim
  | succ n ih =>
    intro x2 u h
    have h : mw_four_L3_S Post x1 (mw_four_L3 Post x1 n) x2 u := h
    unfold mw_four_L3_S at h
    refine jj_iload_n hX dX7_four_3 2 rfl 4 rfl ?_
    refine jj_if_lt hX dX7_four_4 36 7 (by decide) rfl (fun c4 => ?_) (fun c4 => ?_)
    · have h := h.1 c4
      exact jj_retv hX dX7_four_36 (Nat.le_refl 0) (Nat.le_refl 0) jm_hB h
    · have h := h.2 c4
      refine jt_7 hX hK dX7_four_7 0 rfl dX7_four_8 q1491 11 rfl rfl ?_
      refine jt_9 hX hK dX7_four_11 0 rfl dX7_four_12 q1493 15 rfl rfl ?_
      refine jj_iload_n hX dX7_four_15 1 rfl 16 rfl ?_
      refine jj_iload_n hX dX7_four_16 2 rfl 17 rfl ?_
      refine jj_ishr hX dX7_four_17 18 rfl ?_
      refine jj_i2b hX dX7_four_18 19 rfl ?_
      obtain ⟨hi19, h⟩ := h
      refine jw_5 hX hK hD _ rfl hi19 dX7_four_19 20 rfl (fun u19 e19 => ?_)
      have h := h u19 e19
      refine jj_aload_n hX dX7_four_20 0 rfl 21 rfl ?_
      refine jj_dup hX dX7_four_21 rfl 22 rfl ?_
      refine jg_9 hX hK dX7_four_22 q1493 25 rfl ?_
      refine jj_iconst hX dX7_four_25 ci_1 26 rfl ?_
      refine jj_iadd hX dX7_four_26 27 rfl ?_
      refine jp_9 hX hK hD dX7_four_27 q1493 30 rfl (fun u27 e27 => ?_)
      have h := h u27 e27
      obtain ⟨v30, e30⟩ : ∃ y : Int32, y = x2 + (-8 : Int32) := ⟨_, rfl⟩
      have h := h v30 e30
      refine jj_iinc (v := v30) (lv2 := [(0, .ref (ad 0)), (1, .int x1), (2, .int v30)]) hX dX7_four_30 2 rfl (by rw [e30, ci_m8]) (Nat.le_of_ble_eq_true rfl) [1, 2, 0] rfl 33 rfl ?_
      refine jj_goto hX dX7_four_33 3 (by decide) ?_
      exact ih _ _ h
set_option maxHeartbeats 4000000 in
set_option maxRecDepth 100000 in
theorem mmw_four (l : Launch) (D : va_G) (dA ad : Nat → Nat) (hD : MD ad) (x1 : Int32) (u : MS) (Post : MS → Prop) (h : mw_four x1 u Post) : Met l yX7_four (ws_ yX7_four cX7_four 3 (Option.none : Option Jvm.ClassFile.FieldType)) (jm_rm 0 0) (jm_Pc D dA ad u [.int x1]) (va_Qv Post (jm_B D dA ad) (AM ad)) 0 0 (AM ad) := by
  refine jm_start [.int x1] [(0, .ref (ad 0)), (1, .int x1)] (by decide) (Nat.le_of_ble_eq_true rfl) rfl (fun X hX hK => ?_)
  unfold mw_four at h
  refine jj_bipush hX dX7_four_0 cb_24 2 rfl ?_
  refine jj_istore_n (lv2 := [(0, .ref (ad 0)), (1, .int x1), (2, .int (24 : Int32))]) hX dX7_four_2 (Nat.le_of_ble_eq_true rfl) [1, 2, 0] rfl 3 rfl ?_
  obtain ⟨n9, h⟩ := h
  exact tmw_four_L3 hX hK hD n9 _ _ h
theorem hd_mw_four : yX7_four.cls = RX7 ∧ yX7_four.cls ≠ "java/lang/invoke/MethodHandle" ∧ yX7_four.cls ≠ "java/lang/invoke/VarHandle" ∧ (parseMethodDescriptor yX7_four.desc).map (fun d => d.parameters.length) = some 1 := by decide +kernel
theorem kmw_four {X : JC} {Q : State → Prop} {nL k n pc : Nat} {lv : List (Nat × Value)} {st : List Value} {own : String} {cc : ByteArray} {ret : Option FieldType} {F LL mc ms ix : Nat} {D : va_G} {dA ad : Nat → Nat} {x1 : Int32} {u : MS} {Post : MS → Prop} (hX : JX X own cc nL ret F LL mc ms) (hK : KM D dA (jj_s X)) (hD : MD ad) (hlk : (Cond.methodLink own ix yX7_four) ∈ lw_all) (hF : 0 + 1 ≤ F) (hL : 8 + (3 + 11) + 0 ≤ LL) (hk : k ≤ mc) (hk2 : n ≤ ms) (hw : (st.map fun v => v.category).sum ≤ 8) (d : decode cc pc = .ok (.invokevirtual ix, 3)) (q : Nat) (hq : pc + 3 = q) (h : mw_four x1 u Post) (kk : ∀ u2 : MS, Post u2 → JJ X (AM ad) Q nL (MW D dA ad u2) k n q lv st) : JJ X (AM ad) Q nL (MW D dA ad u) k n pc lv (.int x1 :: .ref (ad 0) :: st) :=
  jm_callv (na := 1) (As := [.int x1]) hX hK (mmw_four (jj_l X) D dA ad hD x1 u Post h) hlk q1672 qs61 q129 q1673 hd_mw_four rfl rfl hw hF hL hk hk2 d q hq kk
/-- RaisedPressModel.feed(IIIII)I -/
def mw_feed (x1 : Int32) (x2 : Int32) (x3 : Int32) (x4 : Int32) (x5 : Int32) (u : MS) (Post : Int32 → MS → Prop) : Prop :=
  (((jm_i u 0 9) + (20 : Int32)) ≤ (900 : Int32) →
    mw_four x1 u (fun u17 =>
      mw_four x2 u17 (fun u22 =>
        mw_four x3 u22 (fun u27 =>
          mw_four x4 u27 (fun u33 =>
            mw_four x5 u33 (fun u39 =>
              Post (jm_i u39 0 9) u39)))))) ∧
  (¬ ((jm_i u 0 9) + (20 : Int32)) ≤ (900 : Int32) →
    Post (-1 : Int32) u)
set_option maxHeartbeats 4000000 in
set_option maxRecDepth 100000 in
theorem mmw_feed (l : Launch) (D : va_G) (dA ad : Nat → Nat) (hD : MD ad) (x1 : Int32) (x2 : Int32) (x3 : Int32) (x4 : Int32) (x5 : Int32) (u : MS) (Post : Int32 → MS → Prop) (h : mw_feed x1 x2 x3 x4 x5 u Post) : Met l yX7_feed (ws_ yX7_feed cX7_feed 6 (Option.some Jvm.ClassFile.FieldType.int)) (jm_rm 1 22) (jm_Pc D dA ad u [.int x1, .int x2, .int x3, .int x4, .int x5]) (va_Qi Post (jm_B D dA ad) (AM ad)) 0 0 (AM ad) := by
  refine jm_start [.int x1, .int x2, .int x3, .int x4, .int x5] [(0, .ref (ad 0)), (1, .int x1), (2, .int x2), (3, .int x3), (4, .int x4), (5, .int x5)] (by decide) (Nat.le_of_ble_eq_true rfl) rfl (fun X hX hK => ?_)
  unfold mw_feed at h
  refine jt_9 hX hK dX7_feed_0 0 rfl dX7_feed_1 q1493 4 rfl rfl ?_
  refine jj_bipush hX dX7_feed_4 cb_20 6 rfl ?_
  refine jj_iadd hX dX7_feed_6 7 rfl ?_
  refine jj_sipush hX dX7_feed_7 cs_900 10 rfl ?_
  refine jj_icmp_le hX dX7_feed_10 15 13 (by decide) rfl (fun c10 => ?_) (fun c10 => ?_)
  · have h := h.1 c10
    refine jj_aload_n hX dX7_feed_15 0 rfl 16 rfl ?_
    refine jj_iload_n hX dX7_feed_16 1 rfl 17 rfl ?_
    refine kmw_four hX hK hD q1670 (Nat.le_of_ble_eq_true rfl) (Nat.le_of_ble_eq_true rfl) (Nat.zero_le _) (Nat.zero_le _) (Nat.le_of_ble_eq_true rfl) dX7_feed_17 20 rfl h (fun u17 h => ?_)
    refine jj_aload_n hX dX7_feed_20 0 rfl 21 rfl ?_
    refine jj_iload_n hX dX7_feed_21 2 rfl 22 rfl ?_
    refine kmw_four hX hK hD q1670 (Nat.le_of_ble_eq_true rfl) (Nat.le_of_ble_eq_true rfl) (Nat.zero_le _) (Nat.zero_le _) (Nat.le_of_ble_eq_true rfl) dX7_feed_22 25 rfl h (fun u22 h => ?_)
    refine jj_aload_n hX dX7_feed_25 0 rfl 26 rfl ?_
    refine jj_iload_n hX dX7_feed_26 3 rfl 27 rfl ?_
    refine kmw_four hX hK hD q1670 (Nat.le_of_ble_eq_true rfl) (Nat.le_of_ble_eq_true rfl) (Nat.zero_le _) (Nat.zero_le _) (Nat.le_of_ble_eq_true rfl) dX7_feed_27 30 rfl h (fun u27 h => ?_)
    refine jj_aload_n hX dX7_feed_30 0 rfl 31 rfl ?_
    refine jj_iload hX dX7_feed_31 4 rfl 33 rfl ?_
    refine kmw_four hX hK hD q1670 (Nat.le_of_ble_eq_true rfl) (Nat.le_of_ble_eq_true rfl) (Nat.zero_le _) (Nat.zero_le _) (Nat.le_of_ble_eq_true rfl) dX7_feed_33 36 rfl h (fun u33 h => ?_)
    refine jj_aload_n hX dX7_feed_36 0 rfl 37 rfl ?_
    refine jj_iload hX dX7_feed_37 5 rfl 39 rfl ?_
    refine kmw_four hX hK hD q1670 (Nat.le_of_ble_eq_true rfl) (Nat.le_of_ble_eq_true rfl) (Nat.zero_le _) (Nat.zero_le _) (Nat.le_of_ble_eq_true rfl) dX7_feed_39 42 rfl h (fun u39 h => ?_)
    refine jt_9 hX hK dX7_feed_42 0 rfl dX7_feed_43 q1493 46 rfl rfl ?_
    exact jj_reti (post := Post) (u := u39) hX dX7_feed_46 (Nat.le_refl 0) (Nat.le_refl 0) jm_hB h
  · have h := h.2 c10
    refine jj_iconst hX dX7_feed_13 ci_m1 14 rfl ?_
    exact jj_reti (post := Post) (u := u) hX dX7_feed_14 (Nat.le_refl 0) (Nat.le_refl 0) jm_hB h
theorem hd_mw_feed : yX7_feed.cls = RX7 ∧ yX7_feed.cls ≠ "java/lang/invoke/MethodHandle" ∧ yX7_feed.cls ≠ "java/lang/invoke/VarHandle" ∧ (parseMethodDescriptor yX7_feed.desc).map (fun d => d.parameters.length) = some 5 := by decide +kernel
theorem kmw_feed {X : JC} {Q : State → Prop} {nL k n pc : Nat} {lv : List (Nat × Value)} {st : List Value} {own : String} {cc : ByteArray} {ret : Option FieldType} {F LL mc ms ix : Nat} {D : va_G} {dA ad : Nat → Nat} {x1 : Int32} {x2 : Int32} {x3 : Int32} {x4 : Int32} {x5 : Int32} {u : MS} {Post : Int32 → MS → Prop} (hX : JX X own cc nL ret F LL mc ms) (hK : KM D dA (jj_s X)) (hD : MD ad) (hlk : (Cond.methodLink own ix yX7_feed) ∈ lw_all) (hF : 1 + 1 ≤ F) (hL : 8 + (6 + 11) + 22 ≤ LL) (hk : k ≤ mc) (hk2 : n ≤ ms) (hw : (st.map fun v => v.category).sum ≤ 8) (d : decode cc pc = .ok (.invokevirtual ix, 3)) (q : Nat) (hq : pc + 3 = q) (h : mw_feed x1 x2 x3 x4 x5 u Post) (kk : ∀ (r : Int32) (u2 : MS), Post r u2 → JJ X (AM ad) Q nL (MW D dA ad u2) k n q lv (.int r :: st)) : JJ X (AM ad) Q nL (MW D dA ad u) k n pc lv (.int x5 :: .int x4 :: .int x3 :: .int x2 :: .int x1 :: .ref (ad 0) :: st) :=
  jm_calli (na := 5) (As := [.int x1, .int x2, .int x3, .int x4, .int x5]) hX hK (mmw_feed (jj_l X) D dA ad hD x1 x2 x3 x4 x5 u Post h) hlk q1667 q1668 q129 q1669 hd_mw_feed rfl rfl hw hF hL hk hk2 d q hq kk
/-- RaisedPressModel.fault(I)I -/
def mw_fault (x1 : Int32) (u : MS) (Post : Int32 → MS → Prop) : Prop :=
  (¬ x1 = 0 →
    (¬ x1 = (1 : Int32) →
      Post (-1 : Int32) u) ∧
    (x1 = (1 : Int32) →
      Post (jm_i u 0 16) u)) ∧
  (x1 = 0 →
    Post (jm_i u 0 15) u)
set_option maxHeartbeats 4000000 in
set_option maxRecDepth 100000 in
theorem mmw_fault (l : Launch) (D : va_G) (dA ad : Nat → Nat) (hD : MD ad) (x1 : Int32) (u : MS) (Post : Int32 → MS → Prop) (h : mw_fault x1 u Post) : Met l yX7_fault (ws_ yX7_fault cX7_fault 2 (Option.some Jvm.ClassFile.FieldType.int)) (jm_rm 0 0) (jm_Pc D dA ad u [.int x1]) (va_Qi Post (jm_B D dA ad) (AM ad)) 0 0 (AM ad) := by
  refine jm_start [.int x1] [(0, .ref (ad 0)), (1, .int x1)] (by decide) (Nat.le_of_ble_eq_true rfl) rfl (fun X hX hK => ?_)
  unfold mw_fault at h
  refine jj_iload_n hX dX7_fault_0 1 rfl 1 rfl ?_
  refine jj_if_ne hX dX7_fault_1 11 4 (by decide) rfl (fun c1 => ?_) (fun c1 => ?_)
  · have h := h.1 c1
    refine jj_iload_n hX dX7_fault_11 1 rfl 12 rfl ?_
    refine jj_iconst hX dX7_fault_12 ci_1 13 rfl ?_
    refine jj_icmp_ne hX dX7_fault_13 23 16 (by decide) rfl (fun c13 => ?_) (fun c13 => ?_)
    · have h := h.1 c13
      refine jj_iconst hX dX7_fault_23 ci_m1 24 rfl ?_
      exact jj_reti (post := Post) (u := u) hX dX7_fault_24 (Nat.le_refl 0) (Nat.le_refl 0) jm_hB h
    · have h := h.2 c13
      refine jt_16 hX hK dX7_fault_16 0 rfl dX7_fault_17 q1500 20 rfl rfl ?_
      refine jj_goto hX dX7_fault_20 24 (by decide) ?_
      exact jj_reti (post := Post) (u := u) hX dX7_fault_24 (Nat.le_refl 0) (Nat.le_refl 0) jm_hB h
  · have h := h.2 c1
    refine jt_15 hX hK dX7_fault_4 0 rfl dX7_fault_5 q1499 8 rfl rfl ?_
    refine jj_goto hX dX7_fault_8 24 (by decide) ?_
    exact jj_reti (post := Post) (u := u) hX dX7_fault_24 (Nat.le_refl 0) (Nat.le_refl 0) jm_hB h
theorem hd_mw_fault : yX7_fault.cls = RX7 ∧ yX7_fault.cls ≠ "java/lang/invoke/MethodHandle" ∧ yX7_fault.cls ≠ "java/lang/invoke/VarHandle" ∧ (parseMethodDescriptor yX7_fault.desc).map (fun d => d.parameters.length) = some 1 := by decide +kernel
theorem kmw_fault {X : JC} {Q : State → Prop} {nL k n pc : Nat} {lv : List (Nat × Value)} {st : List Value} {own : String} {cc : ByteArray} {ret : Option FieldType} {F LL mc ms ix : Nat} {D : va_G} {dA ad : Nat → Nat} {x1 : Int32} {u : MS} {Post : Int32 → MS → Prop} (hX : JX X own cc nL ret F LL mc ms) (hK : KM D dA (jj_s X)) (hD : MD ad) (hlk : (Cond.methodLink own ix yX7_fault) ∈ lw_all) (hF : 0 + 1 ≤ F) (hL : 8 + (2 + 11) + 0 ≤ LL) (hk : k ≤ mc) (hk2 : n ≤ ms) (hw : (st.map fun v => v.category).sum ≤ 8) (d : decode cc pc = .ok (.invokevirtual ix, 3)) (q : Nat) (hq : pc + 3 = q) (h : mw_fault x1 u Post) (kk : ∀ (r : Int32) (u2 : MS), Post r u2 → JJ X (AM ad) Q nL (MW D dA ad u2) k n q lv (.int r :: st)) : JJ X (AM ad) Q nL (MW D dA ad u) k n pc lv (.int x1 :: .ref (ad 0) :: st) :=
  jm_calli (na := 1) (As := [.int x1]) hX hK (mmw_fault (jj_l X) D dA ad hD x1 u Post h) hlk q1675 q1676 q129 q1677 hd_mw_fault rfl rfl hw hF hL hk hk2 d q hq kk
/-- RaisedPressModel.byteAt(I)I -/
def mw_byteAt (x1 : Int32) (u : MS) (Post : Int32 → MS → Prop) : Prop :=
  ((jm_i u 0 10) ≤ x1 →
    Post (-1 : Int32) u) ∧
  (¬ (jm_i u 0 10) ≤ x1 →
    vp_in x1 900 ∧
    Post ((jm_i u 6 x1.toNatClampNeg) &&& (255 : Int32)) u)
set_option maxHeartbeats 4000000 in
set_option maxRecDepth 100000 in
theorem mmw_byteAt (l : Launch) (D : va_G) (dA ad : Nat → Nat) (hD : MD ad) (x1 : Int32) (u : MS) (Post : Int32 → MS → Prop) (h : mw_byteAt x1 u Post) : Met l yX7_byteAt (ws_ yX7_byteAt cX7_byteAt 2 (Option.some Jvm.ClassFile.FieldType.int)) (jm_rm 0 0) (jm_Pc D dA ad u [.int x1]) (va_Qi Post (jm_B D dA ad) (AM ad)) 0 0 (AM ad) := by
  refine jm_start [.int x1] [(0, .ref (ad 0)), (1, .int x1)] (by decide) (Nat.le_of_ble_eq_true rfl) rfl (fun X hX hK => ?_)
  unfold mw_byteAt at h
  refine jj_iload_n hX dX7_byteAt_0 1 rfl 1 rfl ?_
  refine jt_10 hX hK dX7_byteAt_1 0 rfl dX7_byteAt_2 q1494 5 rfl rfl ?_
  refine jj_icmp_ge hX dX7_byteAt_5 21 8 (by decide) rfl (fun c5 => ?_) (fun c5 => ?_)
  · have h := h.1 c5
    refine jj_iconst hX dX7_byteAt_21 ci_m1 22 rfl ?_
    exact jj_reti (post := Post) (u := u) hX dX7_byteAt_22 (Nat.le_refl 0) (Nat.le_refl 0) jm_hB h
  · have h := h.2 c5
    refine jt_8 hX hK dX7_byteAt_8 0 rfl dX7_byteAt_9 q1492 12 rfl rfl ?_
    refine jj_iload_n hX dX7_byteAt_12 1 rfl 13 rfl ?_
    obtain ⟨hi13, h⟩ := h
    refine jr_6 hX hK _ rfl hi13 dX7_byteAt_13 14 rfl ?_
    refine jj_sipush hX dX7_byteAt_14 cs_255 17 rfl ?_
    refine jj_iand hX dX7_byteAt_17 18 rfl ?_
    refine jj_goto hX dX7_byteAt_18 22 (by decide) ?_
    exact jj_reti (post := Post) (u := u) hX dX7_byteAt_22 (Nat.le_refl 0) (Nat.le_refl 0) jm_hB h
theorem hd_mw_byteAt : yX7_byteAt.cls = RX7 ∧ yX7_byteAt.cls ≠ "java/lang/invoke/MethodHandle" ∧ yX7_byteAt.cls ≠ "java/lang/invoke/VarHandle" ∧ (parseMethodDescriptor yX7_byteAt.desc).map (fun d => d.parameters.length) = some 1 := by decide +kernel
theorem kmw_byteAt {X : JC} {Q : State → Prop} {nL k n pc : Nat} {lv : List (Nat × Value)} {st : List Value} {own : String} {cc : ByteArray} {ret : Option FieldType} {F LL mc ms ix : Nat} {D : va_G} {dA ad : Nat → Nat} {x1 : Int32} {u : MS} {Post : Int32 → MS → Prop} (hX : JX X own cc nL ret F LL mc ms) (hK : KM D dA (jj_s X)) (hD : MD ad) (hlk : (Cond.methodLink own ix yX7_byteAt) ∈ lw_all) (hF : 0 + 1 ≤ F) (hL : 8 + (2 + 11) + 0 ≤ LL) (hk : k ≤ mc) (hk2 : n ≤ ms) (hw : (st.map fun v => v.category).sum ≤ 8) (d : decode cc pc = .ok (.invokevirtual ix, 3)) (q : Nat) (hq : pc + 3 = q) (h : mw_byteAt x1 u Post) (kk : ∀ (r : Int32) (u2 : MS), Post r u2 → JJ X (AM ad) Q nL (MW D dA ad u2) k n q lv (.int r :: st)) : JJ X (AM ad) Q nL (MW D dA ad u) k n pc lv (.int x1 :: .ref (ad 0) :: st) :=
  jm_calli (na := 1) (As := [.int x1]) hX hK (mmw_byteAt (jj_l X) D dA ad hD x1 u Post h) hlk q1692 qs64 q129 q1693 hd_mw_byteAt rfl rfl hw hF hL hk hk2 d q hq kk
/-- RaisedPressModel.isSmall(I)Z -/
def mw_isSmall (x0 : Int32) (Post : Int32 → Prop) : Prop :=
  (x0 < (97 : Int32) →
    Post (0 : Int32)) ∧
  (¬ x0 < (97 : Int32) →
    ((122 : Int32) < x0 →
      Post (0 : Int32)) ∧
    (¬ (122 : Int32) < x0 →
      Post (1 : Int32)))
set_option maxHeartbeats 4000000 in
set_option maxRecDepth 100000 in
theorem mmw_isSmall (l : Launch) (x0 : Int32) (Post : Int32 → Prop) (h : mw_isSmall x0 Post) : Met l yX7_isSmall (ws_ yX7_isSmall cX7_isSmall 1 (Option.some Jvm.ClassFile.FieldType.boolean)) (jm_rm 0 0) (js_Pc [.int x0]) (va_Qi (fun r (_ : Unit) => Post r ∧ jj_z r) js_B js_A) 0 0 js_A := by
  refine js_start [.int x0] [(0, .int x0)] (by decide) (Nat.le_of_ble_eq_true rfl) rfl (fun X hX => ?_)
  unfold mw_isSmall at h
  refine jj_iload_n hX dX7_isSmall_0 0 rfl 1 rfl ?_
  refine jj_bipush hX dX7_isSmall_1 cb_97 3 rfl ?_
  refine jj_icmp_lt hX dX7_isSmall_3 16 6 (by decide) rfl (fun c3 => ?_) (fun c3 => ?_)
  · have h := h.1 c3
    refine jj_iconst hX dX7_isSmall_16 ci_0 17 rfl ?_
    exact jj_retz (post := (fun r (_ : Unit) => Post r)) (u := ()) hX dX7_isSmall_17 (Nat.le_refl 0) (Nat.le_refl 0) js_hB jj_z0 h
  · have h := h.2 c3
    refine jj_iload_n hX dX7_isSmall_6 0 rfl 7 rfl ?_
    refine jj_bipush hX dX7_isSmall_7 cb_122 9 rfl ?_
    refine jj_icmp_gt hX dX7_isSmall_9 16 12 (by decide) rfl (fun c9 => ?_) (fun c9 => ?_)
    · have h := h.1 c9
      refine jj_iconst hX dX7_isSmall_16 ci_0 17 rfl ?_
      exact jj_retz (post := (fun r (_ : Unit) => Post r)) (u := ()) hX dX7_isSmall_17 (Nat.le_refl 0) (Nat.le_refl 0) js_hB jj_z0 h
    · have h := h.2 c9
      refine jj_iconst hX dX7_isSmall_12 ci_1 13 rfl ?_
      refine jj_goto hX dX7_isSmall_13 17 (by decide) ?_
      exact jj_retz (post := (fun r (_ : Unit) => Post r)) (u := ()) hX dX7_isSmall_17 (Nat.le_refl 0) (Nat.le_refl 0) js_hB jj_z1 h
theorem hd_mw_isSmall : yX7_isSmall.cls ≠ "java/lang/invoke/MethodHandle" ∧ yX7_isSmall.cls ≠ "java/lang/invoke/VarHandle" ∧ (parseMethodDescriptor yX7_isSmall.desc).map (fun d => d.parameters.length) = some 1 := by decide +kernel
theorem kmw_isSmall {X : JC} {A : Nat → Prop} {Q : State → Prop} {P : Heap → Prop} {nL k n pc : Nat} {lv : List (Nat × Value)} {st : List Value} {own : String} {cc : ByteArray} {ret : Option FieldType} {F LL mc ms ix : Nat} {x0 : Int32} {Post : Int32 → Prop} (hX : JX X own cc nL ret F LL mc ms) (hKP : jj_Keeps P) (hlk : (Cond.methodLink own ix yX7_isSmall) ∈ lw_all) (hF : 0 + 1 ≤ F) (hL : 8 + (1 + 11) + 0 ≤ LL) (hk : k ≤ mc) (hk2 : n ≤ ms) (hw : (st.map fun v => v.category).sum ≤ 8) (d : decode cc pc = .ok (.invokestatic ix, 3)) (q : Nat) (hq : pc + 3 = q) (h : mw_isSmall x0 Post) (kk : ∀ r : Int32, jj_z r → Post r → JJ X A Q nL P k n q lv (.int r :: st)) : JJ X A Q nL P k n pc lv (.int x0 :: st) :=
  js_callz (na := 1) (As := [.int x0]) hX hKP (mmw_isSmall (jj_l X) x0 Post h) hlk q1695 q129 q1696 hd_mw_isSmall rfl rfl hw hF hL hk hk2 d q hq kk
/-- RaisedPressModel.isDigit(I)Z -/
def mw_isDigit (x0 : Int32) (Post : Int32 → Prop) : Prop :=
  (x0 < (48 : Int32) →
    Post (0 : Int32)) ∧
  (¬ x0 < (48 : Int32) →
    ((57 : Int32) < x0 →
      Post (0 : Int32)) ∧
    (¬ (57 : Int32) < x0 →
      Post (1 : Int32)))
set_option maxHeartbeats 4000000 in
set_option maxRecDepth 100000 in
theorem mmw_isDigit (l : Launch) (x0 : Int32) (Post : Int32 → Prop) (h : mw_isDigit x0 Post) : Met l yX7_isDigit (ws_ yX7_isDigit cX7_isDigit 1 (Option.some Jvm.ClassFile.FieldType.boolean)) (jm_rm 0 0) (js_Pc [.int x0]) (va_Qi (fun r (_ : Unit) => Post r ∧ jj_z r) js_B js_A) 0 0 js_A := by
  refine js_start [.int x0] [(0, .int x0)] (by decide) (Nat.le_of_ble_eq_true rfl) rfl (fun X hX => ?_)
  unfold mw_isDigit at h
  refine jj_iload_n hX dX7_isDigit_0 0 rfl 1 rfl ?_
  refine jj_bipush hX dX7_isDigit_1 cb_48 3 rfl ?_
  refine jj_icmp_lt hX dX7_isDigit_3 16 6 (by decide) rfl (fun c3 => ?_) (fun c3 => ?_)
  · have h := h.1 c3
    refine jj_iconst hX dX7_isDigit_16 ci_0 17 rfl ?_
    exact jj_retz (post := (fun r (_ : Unit) => Post r)) (u := ()) hX dX7_isDigit_17 (Nat.le_refl 0) (Nat.le_refl 0) js_hB jj_z0 h
  · have h := h.2 c3
    refine jj_iload_n hX dX7_isDigit_6 0 rfl 7 rfl ?_
    refine jj_bipush hX dX7_isDigit_7 cb_57 9 rfl ?_
    refine jj_icmp_gt hX dX7_isDigit_9 16 12 (by decide) rfl (fun c9 => ?_) (fun c9 => ?_)
    · have h := h.1 c9
      refine jj_iconst hX dX7_isDigit_16 ci_0 17 rfl ?_
      exact jj_retz (post := (fun r (_ : Unit) => Post r)) (u := ()) hX dX7_isDigit_17 (Nat.le_refl 0) (Nat.le_refl 0) js_hB jj_z0 h
    · have h := h.2 c9
      refine jj_iconst hX dX7_isDigit_12 ci_1 13 rfl ?_
      refine jj_goto hX dX7_isDigit_13 17 (by decide) ?_
      exact jj_retz (post := (fun r (_ : Unit) => Post r)) (u := ()) hX dX7_isDigit_17 (Nat.le_refl 0) (Nat.le_refl 0) js_hB jj_z1 h
theorem hd_mw_isDigit : yX7_isDigit.cls ≠ "java/lang/invoke/MethodHandle" ∧ yX7_isDigit.cls ≠ "java/lang/invoke/VarHandle" ∧ (parseMethodDescriptor yX7_isDigit.desc).map (fun d => d.parameters.length) = some 1 := by decide +kernel
theorem kmw_isDigit {X : JC} {A : Nat → Prop} {Q : State → Prop} {P : Heap → Prop} {nL k n pc : Nat} {lv : List (Nat × Value)} {st : List Value} {own : String} {cc : ByteArray} {ret : Option FieldType} {F LL mc ms ix : Nat} {x0 : Int32} {Post : Int32 → Prop} (hX : JX X own cc nL ret F LL mc ms) (hKP : jj_Keeps P) (hlk : (Cond.methodLink own ix yX7_isDigit) ∈ lw_all) (hF : 0 + 1 ≤ F) (hL : 8 + (1 + 11) + 0 ≤ LL) (hk : k ≤ mc) (hk2 : n ≤ ms) (hw : (st.map fun v => v.category).sum ≤ 8) (d : decode cc pc = .ok (.invokestatic ix, 3)) (q : Nat) (hq : pc + 3 = q) (h : mw_isDigit x0 Post) (kk : ∀ r : Int32, jj_z r → Post r → JJ X A Q nL P k n q lv (.int r :: st)) : JJ X A Q nL P k n pc lv (.int x0 :: st) :=
  js_callz (na := 1) (As := [.int x0]) hX hKP (mmw_isDigit (jj_l X) x0 Post h) hlk q1698 q129 q1699 hd_mw_isDigit rfl rfl hw hF hL hk hk2 d q hq kk
/-- Math.min of two ints -/
def jw_min (x0 x1 : Int32) (Post : Int32 → Prop) : Prop := Post (if x1 < x0 then x1 else x0)
theorem kjw_min {X : JC} {A : Nat → Prop} {Q : State → Prop} {P : Heap → Prop} {nL k n pc : Nat} {lv : List (Nat × Value)} {st : List Value} {own : String} {cc : ByteArray} {ret : Option FieldType} {F LL mc ms ix : Nat} {x0 x1 : Int32} {Post : Int32 → Prop} (hX : JX X own cc nL ret F LL mc ms) (hKP : jj_Keeps P) (hlk : (Cond.methodLink own ix yJ10_min) ∈ lw_all) (hF : 0 + 1 ≤ F) (hL : 8 + (2 + 11) + 0 ≤ LL) (hk : k ≤ mc) (hk2 : n ≤ ms) (hw : (st.map fun v => v.category).sum ≤ 8) (d : decode cc pc = .ok (.invokestatic ix, 3)) (q : Nat) (hq : pc + 3 = q) (h : jw_min x0 x1 Post) (kk : ∀ r : Int32, Post r → JJ X A Q nL P k n q lv (.int r :: st)) : JJ X A Q nL P k n pc lv (.int x1 :: .int x0 :: st) := by
  subst hq
  obtain ⟨h1, h2, h3, h4, h5, h6, h7, h8, h9, h10, h11⟩ := hX
  exact fun H locs ls hP hS hh => va_mmin h1 h2 (h3.trans hh.1.symm) h4 (h5 _ hlk) (h5 _ q1209) (h5 _ q146) (h5 _ q1210) (by rw [h8]; omega) (by rw [h9]; omega) (by rw [h10]; exact hk) (by rw [h11]; exact hk2) d (kk _ h H locs ls hP hS hh)
def mw_ahead_L128_S (Post : MS → Prop) (R : MS → Prop) (u : MS) : Prop :=
  mw_byteAt (jm_i u 0 13) u (fun r133 u133 =>
    mw_isDigit r133 (fun r136 =>
      (r136 = 0 →
        (((jm_i u133 0 13) - (jm_i u133 0 12)) ≤ (4 : Int32) →
          ∀ u202 : MS, u202 = jm_s u133 0 11 (3 : Int32) →
          Post u202) ∧
        (¬ ((jm_i u133 0 13) - (jm_i u133 0 12)) ≤ (4 : Int32) →
          ∀ u202 : MS, u202 = jm_s u133 0 11 (1 : Int32) →
          Post u202)) ∧
      (¬ r136 = 0 →
        mw_byteAt (jm_i u133 0 13) u133 (fun r157 u157 =>
          jw_min (100000 : Int32) ((((10 : Int32) * (jm_i u133 0 14)) + r157) - (48 : Int32)) (fun r164 =>
            ∀ u167 : MS, u167 = jm_s u157 0 14 r164 →
            ∀ u177 : MS, u177 = jm_s u167 0 13 ((jm_i u167 0 13) + (1 : Int32)) →
            R u177)))))
def mw_ahead_L128 (Post : MS → Prop) : Nat → MS → Prop
  | 0 => fun _ => False
  | n + 1 => fun u => mw_ahead_L128_S Post (mw_ahead_L128 Post n) u
def mw_ahead_L81_S (Post : MS → Prop) (R : MS → Prop) (u : MS) : Prop :=
  mw_byteAt (jm_i u 0 13) u (fun r86 u86 =>
    mw_isSmall r86 (fun r89 =>
      (r89 = 0 →
        ∀ u110 : MS, u110 = jm_s u86 0 11 (2 : Int32) →
        Post u110) ∧
      (¬ r89 = 0 →
        ∀ u102 : MS, u102 = jm_s u86 0 13 ((jm_i u86 0 13) + (1 : Int32)) →
        R u102)))
def mw_ahead_L81 (Post : MS → Prop) : Nat → MS → Prop
  | 0 => fun _ => False
  | n + 1 => fun u => mw_ahead_L81_S Post (mw_ahead_L81 Post n) u
def mw_ahead_L0_S (Post : MS → Prop) (R : MS → Prop) (u : MS) : Prop :=
  mw_byteAt (jm_i u 0 13) u (fun r5 u5 =>
    (r5 = (32 : Int32) →
      ∀ u33 : MS, u33 = jm_s u5 0 13 ((jm_i u5 0 13) + (1 : Int32)) →
      R u33) ∧
    (¬ r5 = (32 : Int32) →
      mw_byteAt (jm_i u5 0 13) u5 (fun r18 u18 =>
        (¬ r18 = (10 : Int32) →
          ∀ u44 : MS, u44 = jm_s u18 0 12 (jm_i u18 0 13) →
          mw_byteAt (jm_i u44 0 13) u44 (fun r52 u52 =>
            ∀ u58 : MS, u58 = jm_s u52 0 14 r52 →
            (¬ r52 = (-1 : Int32) →
              mw_isSmall r52 (fun r75 =>
                (r75 = 0 →
                  mw_isDigit r52 (fun r117 =>
                    (r117 = 0 →
                      ∀ u215 : MS, u215 = jm_s u58 0 13 ((jm_i u58 0 13) + (1 : Int32)) →
                      (¬ r52 = (59 : Int32) →
                        ∀ u230 : MS, u230 = jm_s u215 0 11 (1 : Int32) →
                        Post u230) ∧
                      (r52 = (59 : Int32) →
                        ∀ u230 : MS, u230 = jm_s u215 0 11 (4 : Int32) →
                        Post u230)) ∧
                    (¬ r117 = 0 →
                      ∀ u125 : MS, u125 = jm_s u58 0 14 (0 : Int32) →
                      ∃ n, mw_ahead_L128 Post n u125))) ∧
                (¬ r75 = 0 →
                  ∃ n, mw_ahead_L81 Post n u58))) ∧
            (r52 = (-1 : Int32) →
              ∀ u68 : MS, u68 = jm_s u58 0 11 (0 : Int32) →
              Post u68))) ∧
        (r18 = (10 : Int32) →
          ∀ u33 : MS, u33 = jm_s u18 0 13 ((jm_i u18 0 13) + (1 : Int32)) →
          R u33))))
def mw_ahead_L0 (Post : MS → Prop) : Nat → MS → Prop
  | 0 => fun _ => False
  | n + 1 => fun u => mw_ahead_L0_S Post (mw_ahead_L0 Post n) u
/-- RaisedPressModel.ahead()V -/
def mw_ahead (u : MS) (Post : MS → Prop) : Prop :=
  ∃ n, mw_ahead_L0 Post n u
set_option maxHeartbeats 4000000 in
set_option maxRecDepth 100000 in
theorem tmw_ahead_L128 {X : JC} {D : va_G} {dA ad : Nat → Nat} {Post : MS → Prop} (hX : JX X yX7_ahead.cls cX7_ahead 2 (Option.none : Option Jvm.ClassFile.FieldType) 1 21 0 0) (hK : KM D dA (jj_s X)) (hD : MD ad) : ∀ (n : Nat) (u : MS), mw_ahead_L128 Post n u → JJ X (AM ad) (jj_Q X (va_Qv Post (jm_B D dA ad) (AM ad)) 0 0 (AM ad)) 2 (MW D dA ad u) 0 0 128 [(0, .ref (ad 0))] [] := by
  intro n
  induction n with
  | zero =>
    intro u h
    exact h.elim
  | succ n ih =>
    intro u h
    have h : mw_ahead_L128_S Post (mw_ahead_L128 Post n) u := h
    unfold mw_ahead_L128_S at h
    refine jj_aload_n hX dX7_ahead_128 0 rfl 129 rfl ?_
    refine jt_13 hX hK dX7_ahead_129 0 rfl dX7_ahead_130 q1497 133 rfl rfl ?_
    refine kmw_byteAt hX hK hD q1690 (Nat.le_of_ble_eq_true rfl) (Nat.le_of_ble_eq_true rfl) (Nat.zero_le _) (Nat.zero_le _) (Nat.le_of_ble_eq_true rfl) dX7_ahead_133 136 rfl h (fun r133 u133 h => ?_)
    refine kmw_isDigit hX MW.keeps q1697 (Nat.le_of_ble_eq_true rfl) (Nat.le_of_ble_eq_true rfl) (Nat.zero_le _) (Nat.zero_le _) (Nat.le_of_ble_eq_true rfl) dX7_ahead_136 139 rfl h (fun r136 hb136 h => ?_)
    refine jj_if_eq hX dX7_ahead_139 183 142 (by decide) rfl (fun c139 => ?_) (fun c139 => ?_)
    · have h := h.1 c139
      refine jj_aload_n hX dX7_ahead_183 0 rfl 184 rfl ?_
      refine jt_13 hX hK dX7_ahead_184 0 rfl dX7_ahead_185 q1497 188 rfl rfl ?_
      refine jt_12 hX hK dX7_ahead_188 0 rfl dX7_ahead_189 q1496 192 rfl rfl ?_
      refine jj_isub hX dX7_ahead_192 193 rfl ?_
      refine jj_iconst hX dX7_ahead_193 ci_4 194 rfl ?_
      refine jj_icmp_le hX dX7_ahead_194 201 197 (by decide) rfl (fun c194 => ?_) (fun c194 => ?_)
      · have h := h.1 c194
        refine jj_iconst hX dX7_ahead_201 ci_3 202 rfl ?_
        refine jp_11 hX hK hD dX7_ahead_202 q1495 205 rfl (fun u202 e202 => ?_)
        have h := h u202 e202
        refine jj_goto hX dX7_ahead_205 233 (by decide) ?_
        exact jj_retv hX dX7_ahead_233 (Nat.le_refl 0) (Nat.le_refl 0) jm_hB h
      · have h := h.2 c194
        refine jj_iconst hX dX7_ahead_197 ci_1 198 rfl ?_
        refine jj_goto hX dX7_ahead_198 202 (by decide) ?_
        refine jp_11 hX hK hD dX7_ahead_202 q1495 205 rfl (fun u202 e202 => ?_)
        have h := h u202 e202
        refine jj_goto hX dX7_ahead_205 233 (by decide) ?_
        exact jj_retv hX dX7_ahead_233 (Nat.le_refl 0) (Nat.le_refl 0) jm_hB h
    · have h := h.2 c139
      refine jj_aload_n hX dX7_ahead_142 0 rfl 143 rfl ?_
      refine jj_ldc (v := 100000) hX dX7_ahead_143 q1700 145 rfl ?_
      refine jj_bipush hX dX7_ahead_145 cb_10 147 rfl ?_
      refine jt_14 hX hK dX7_ahead_147 0 rfl dX7_ahead_148 q1498 151 rfl rfl ?_
      refine jj_imul hX dX7_ahead_151 152 rfl ?_
      refine jj_aload_n hX dX7_ahead_152 0 rfl 153 rfl ?_
      refine jt_13 hX hK dX7_ahead_153 0 rfl dX7_ahead_154 q1497 157 rfl rfl ?_
      refine kmw_byteAt hX hK hD q1690 (Nat.le_of_ble_eq_true rfl) (Nat.le_of_ble_eq_true rfl) (Nat.zero_le _) (Nat.zero_le _) (Nat.le_of_ble_eq_true rfl) dX7_ahead_157 160 rfl h (fun r157 u157 h => ?_)
      refine jj_iadd hX dX7_ahead_160 161 rfl ?_
      refine jj_bipush hX dX7_ahead_161 cb_48 163 rfl ?_
      refine jj_isub hX dX7_ahead_163 164 rfl ?_
      refine kjw_min hX MW.keeps q1701 (Nat.le_of_ble_eq_true rfl) (Nat.le_of_ble_eq_true rfl) (Nat.zero_le _) (Nat.zero_le _) (Nat.le_of_ble_eq_true rfl) dX7_ahead_164 167 rfl h (fun r164 h => ?_)
      refine jp_14 hX hK hD dX7_ahead_167 q1498 170 rfl (fun u167 e167 => ?_)
      have h := h u167 e167
      refine jj_aload_n hX dX7_ahead_170 0 rfl 171 rfl ?_
      refine jj_dup hX dX7_ahead_171 rfl 172 rfl ?_
      refine jg_13 hX hK dX7_ahead_172 q1497 175 rfl ?_
      refine jj_iconst hX dX7_ahead_175 ci_1 176 rfl ?_
      refine jj_iadd hX dX7_ahead_176 177 rfl ?_
      refine jp_13 hX hK hD dX7_ahead_177 q1497 180 rfl (fun u177 e177 => ?_)
      have h := h u177 e177
      refine jj_goto hX dX7_ahead_180 128 (by decide) ?_
      exact ih _ h
set_option maxHeartbeats 4000000 in
set_option maxRecDepth 100000 in
theorem tmw_ahead_L81 {X : JC} {D : va_G} {dA ad : Nat → Nat} {Post : MS → Prop} (hX : JX X yX7_ahead.cls cX7_ahead 2 (Option.none : Option Jvm.ClassFile.FieldType) 1 21 0 0) (hK : KM D dA (jj_s X)) (hD : MD ad) : ∀ (n : Nat) (u : MS), mw_ahead_L81 Post n u → JJ X (AM ad) (jj_Q X (va_Qv Post (jm_B D dA ad) (AM ad)) 0 0 (AM ad)) 2 (MW D dA ad u) 0 0 81 [(0, .ref (ad 0))] [] := by
  intro n
  induction n with
  | zero =>
    intro u h
    exact h.elim
  | succ n ih =>
    intro u h
    have h : mw_ahead_L81_S Post (mw_ahead_L81 Post n) u := h
    unfold mw_ahead_L81_S at h
    refine jj_aload_n hX dX7_ahead_81 0 rfl 82 rfl ?_
    refine jt_13 hX hK dX7_ahead_82 0 rfl dX7_ahead_83 q1497 86 rfl rfl ?_
    refine kmw_byteAt hX hK hD q1690 (Nat.le_of_ble_eq_true rfl) (Nat.le_of_ble_eq_true rfl) (Nat.zero_le _) (Nat.zero_le _) (Nat.le_of_ble_eq_true rfl) dX7_ahead_86 89 rfl h (fun r86 u86 h => ?_)
    refine kmw_isSmall hX MW.keeps q1694 (Nat.le_of_ble_eq_true rfl) (Nat.le_of_ble_eq_true rfl) (Nat.zero_le _) (Nat.zero_le _) (Nat.le_of_ble_eq_true rfl) dX7_ahead_89 92 rfl h (fun r89 hb89 h => ?_)
    refine jj_if_eq hX dX7_ahead_92 108 95 (by decide) rfl (fun c92 => ?_) (fun c92 => ?_)
    · have h := h.1 c92
      refine jj_aload_n hX dX7_ahead_108 0 rfl 109 rfl ?_
      refine jj_iconst hX dX7_ahead_109 ci_2 110 rfl ?_
      refine jp_11 hX hK hD dX7_ahead_110 q1495 113 rfl (fun u110 e110 => ?_)
      have h := h u110 e110
      refine jj_goto hX dX7_ahead_113 233 (by decide) ?_
      exact jj_retv hX dX7_ahead_233 (Nat.le_refl 0) (Nat.le_refl 0) jm_hB h
    · have h := h.2 c92
      refine jj_aload_n hX dX7_ahead_95 0 rfl 96 rfl ?_
      refine jj_dup hX dX7_ahead_96 rfl 97 rfl ?_
      refine jg_13 hX hK dX7_ahead_97 q1497 100 rfl ?_
      refine jj_iconst hX dX7_ahead_100 ci_1 101 rfl ?_
      refine jj_iadd hX dX7_ahead_101 102 rfl ?_
      refine jp_13 hX hK hD dX7_ahead_102 q1497 105 rfl (fun u102 e102 => ?_)
      have h := h u102 e102
      refine jj_goto hX dX7_ahead_105 81 (by decide) ?_
      exact ih _ h
set_option maxHeartbeats 4000000 in
set_option maxRecDepth 100000 in
theorem tmw_ahead_L0 {X : JC} {D : va_G} {dA ad : Nat → Nat} {Post : MS → Prop} (hX : JX X yX7_ahead.cls cX7_ahead 2 (Option.none : Option Jvm.ClassFile.FieldType) 1 21 0 0) (hK : KM D dA (jj_s X)) (hD : MD ad) : ∀ (n : Nat) (u : MS), mw_ahead_L0 Post n u → JJ X (AM ad) (jj_Q X (va_Qv Post (jm_B D dA ad) (AM ad)) 0 0 (AM ad)) 2 (MW D dA ad u) 0 0 0 [(0, .ref (ad 0))] [] := by
  intro n
  induction n with
  | zero =>
    intro u h
    exact h.elim
  | succ n ih =>
    intro u h
    have h : mw_ahead_L0_S Post (mw_ahead_L0 Post n) u := h
    unfold mw_ahead_L0_S at h
    refine jj_aload_n hX dX7_ahead_0 0 rfl 1 rfl ?_
    refine jt_13 hX hK dX7_ahead_1 0 rfl dX7_ahead_2 q1497 5 rfl rfl ?_
    refine kmw_byteAt hX hK hD q1690 (Nat.le_of_ble_eq_true rfl) (Nat.le_of_ble_eq_true rfl) (Nat.zero_le _) (Nat.zero_le _) (Nat.le_of_ble_eq_true rfl) dX7_ahead_5 8 rfl h (fun r5 u5 h => ?_)
    refine jj_bipush hX dX7_ahead_8 cb_32 10 rfl ?_
    refine jj_icmp_eq hX dX7_ahead_10 26 13 (by decide) rfl (fun c10 => ?_) (fun c10 => ?_)
    · have h := h.1 c10
      refine jj_aload_n hX dX7_ahead_26 0 rfl 27 rfl ?_
      refine jj_dup hX dX7_ahead_27 rfl 28 rfl ?_
      refine jg_13 hX hK dX7_ahead_28 q1497 31 rfl ?_
      refine jj_iconst hX dX7_ahead_31 ci_1 32 rfl ?_
      refine jj_iadd hX dX7_ahead_32 33 rfl ?_
      refine jp_13 hX hK hD dX7_ahead_33 q1497 36 rfl (fun u33 e33 => ?_)
      have h := h u33 e33
      refine jj_goto hX dX7_ahead_36 0 (by decide) ?_
      exact ih _ h
    · have h := h.2 c10
      refine jj_aload_n hX dX7_ahead_13 0 rfl 14 rfl ?_
      refine jt_13 hX hK dX7_ahead_14 0 rfl dX7_ahead_15 q1497 18 rfl rfl ?_
      refine kmw_byteAt hX hK hD q1690 (Nat.le_of_ble_eq_true rfl) (Nat.le_of_ble_eq_true rfl) (Nat.zero_le _) (Nat.zero_le _) (Nat.le_of_ble_eq_true rfl) dX7_ahead_18 21 rfl h (fun r18 u18 h => ?_)
      refine jj_bipush hX dX7_ahead_21 cb_10 23 rfl ?_
      refine jj_icmp_ne hX dX7_ahead_23 39 26 (by decide) rfl (fun c23 => ?_) (fun c23 => ?_)
      · have h := h.1 c23
        refine jj_aload_n hX dX7_ahead_39 0 rfl 40 rfl ?_
        refine jt_13 hX hK dX7_ahead_40 0 rfl dX7_ahead_41 q1497 44 rfl rfl ?_
        refine jp_12 hX hK hD dX7_ahead_44 q1496 47 rfl (fun u44 e44 => ?_)
        have h := h u44 e44
        refine jj_aload_n hX dX7_ahead_47 0 rfl 48 rfl ?_
        refine jt_13 hX hK dX7_ahead_48 0 rfl dX7_ahead_49 q1497 52 rfl rfl ?_
        refine kmw_byteAt hX hK hD q1690 (Nat.le_of_ble_eq_true rfl) (Nat.le_of_ble_eq_true rfl) (Nat.zero_le _) (Nat.zero_le _) (Nat.le_of_ble_eq_true rfl) dX7_ahead_52 55 rfl h (fun r52 u52 h => ?_)
        refine jj_istore_n (lv2 := [(0, .ref (ad 0)), (1, .int r52)]) hX dX7_ahead_55 (Nat.le_of_ble_eq_true rfl) [1, 0] rfl 56 rfl ?_
        refine jj_aload_n hX dX7_ahead_56 0 rfl 57 rfl ?_
        refine jj_iload_n hX dX7_ahead_57 1 rfl 58 rfl ?_
        refine jp_14 hX hK hD dX7_ahead_58 q1498 61 rfl (fun u58 e58 => ?_)
        have h := h u58 e58
        refine jj_iload_n hX dX7_ahead_61 1 rfl 62 rfl ?_
        refine jj_iconst hX dX7_ahead_62 ci_m1 63 rfl ?_
        refine jj_icmp_ne hX dX7_ahead_63 74 66 (by decide) rfl (fun c63 => ?_) (fun c63 => ?_)
        · have h := h.1 c63
          refine jj_iload_n hX dX7_ahead_74 1 rfl 75 rfl ?_
          refine kmw_isSmall hX MW.keeps q1694 (Nat.le_of_ble_eq_true rfl) (Nat.le_of_ble_eq_true rfl) (Nat.zero_le _) (Nat.zero_le _) (Nat.le_of_ble_eq_true rfl) dX7_ahead_75 78 rfl h (fun r75 hb75 h => ?_)
          refine jj_if_eq hX dX7_ahead_78 116 81 (by decide) rfl (fun c78 => ?_) (fun c78 => ?_)
          · have h := h.1 c78
            refine jj_iload_n hX dX7_ahead_116 1 rfl 117 rfl ?_
            refine kmw_isDigit hX MW.keeps q1697 (Nat.le_of_ble_eq_true rfl) (Nat.le_of_ble_eq_true rfl) (Nat.zero_le _) (Nat.zero_le _) (Nat.le_of_ble_eq_true rfl) dX7_ahead_117 120 rfl h (fun r117 hb117 h => ?_)
            refine jj_if_eq hX dX7_ahead_120 208 123 (by decide) rfl (fun c120 => ?_) (fun c120 => ?_)
            · have h := h.1 c120
              refine jj_aload_n hX dX7_ahead_208 0 rfl 209 rfl ?_
              refine jj_dup hX dX7_ahead_209 rfl 210 rfl ?_
              refine jg_13 hX hK dX7_ahead_210 q1497 213 rfl ?_
              refine jj_iconst hX dX7_ahead_213 ci_1 214 rfl ?_
              refine jj_iadd hX dX7_ahead_214 215 rfl ?_
              refine jp_13 hX hK hD dX7_ahead_215 q1497 218 rfl (fun u215 e215 => ?_)
              have h := h u215 e215
              refine jj_aload_n hX dX7_ahead_218 0 rfl 219 rfl ?_
              refine jj_iload_n hX dX7_ahead_219 1 rfl 220 rfl ?_
              refine jj_bipush hX dX7_ahead_220 cb_59 222 rfl ?_
              refine jj_icmp_ne hX dX7_ahead_222 229 225 (by decide) rfl (fun c222 => ?_) (fun c222 => ?_)
              · have h := h.1 c222
                refine jj_iconst hX dX7_ahead_229 ci_1 230 rfl ?_
                refine jp_11 hX hK hD dX7_ahead_230 q1495 233 rfl (fun u230 e230 => ?_)
                have h := h u230 e230
                exact jj_retv hX dX7_ahead_233 (Nat.le_refl 0) (Nat.le_refl 0) jm_hB h
              · have h := h.2 c222
                refine jj_iconst hX dX7_ahead_225 ci_4 226 rfl ?_
                refine jj_goto hX dX7_ahead_226 230 (by decide) ?_
                refine jp_11 hX hK hD dX7_ahead_230 q1495 233 rfl (fun u230 e230 => ?_)
                have h := h u230 e230
                exact jj_retv hX dX7_ahead_233 (Nat.le_refl 0) (Nat.le_refl 0) jm_hB h
            · have h := h.2 c120
              refine jj_aload_n hX dX7_ahead_123 0 rfl 124 rfl ?_
              refine jj_iconst hX dX7_ahead_124 ci_0 125 rfl ?_
              refine jp_14 hX hK hD dX7_ahead_125 q1498 128 rfl (fun u125 e125 => ?_)
              have h := h u125 e125
              obtain ⟨n9, h⟩ := h
              refine jj_sub (lv2 := [(0, .ref (ad 0))]) [0] rfl ?_
              exact tmw_ahead_L128 hX hK hD n9 _ h
          · have h := h.2 c78
            obtain ⟨n9, h⟩ := h
            refine jj_sub (lv2 := [(0, .ref (ad 0))]) [0] rfl ?_
            exact tmw_ahead_L81 hX hK hD n9 _ h
        · have h := h.2 c63
          refine jj_aload_n hX dX7_ahead_66 0 rfl 67 rfl ?_
          refine jj_iconst hX dX7_ahead_67 ci_0 68 rfl ?_
          refine jp_11 hX hK hD dX7_ahead_68 q1495 71 rfl (fun u68 e68 => ?_)
          have h := h u68 e68
          refine jj_goto hX dX7_ahead_71 233 (by decide) ?_
          exact jj_retv hX dX7_ahead_233 (Nat.le_refl 0) (Nat.le_refl 0) jm_hB h
      · have h := h.2 c23
        refine jj_aload_n hX dX7_ahead_26 0 rfl 27 rfl ?_
        refine jj_dup hX dX7_ahead_27 rfl 28 rfl ?_
        refine jg_13 hX hK dX7_ahead_28 q1497 31 rfl ?_
        refine jj_iconst hX dX7_ahead_31 ci_1 32 rfl ?_
        refine jj_iadd hX dX7_ahead_32 33 rfl ?_
        refine jp_13 hX hK hD dX7_ahead_33 q1497 36 rfl (fun u33 e33 => ?_)
        have h := h u33 e33
        refine jj_goto hX dX7_ahead_36 0 (by decide) ?_
        exact ih _ h
set_option maxHeartbeats 4000000 in
set_option maxRecDepth 100000 in
theorem mmw_ahead (l : Launch) (D : va_G) (dA ad : Nat → Nat) (hD : MD ad) (u : MS) (Post : MS → Prop) (h : mw_ahead  u Post) : Met l yX7_ahead (ws_ yX7_ahead cX7_ahead 2 (Option.none : Option Jvm.ClassFile.FieldType)) (jm_rm 1 21) (jm_Pc D dA ad u []) (va_Qv Post (jm_B D dA ad) (AM ad)) 0 0 (AM ad) := by
  refine jm_start [] [(0, .ref (ad 0))] (by decide) (Nat.le_of_ble_eq_true rfl) rfl (fun X hX hK => ?_)
  unfold mw_ahead at h
  obtain ⟨n9, h⟩ := h
  exact tmw_ahead_L0 hX hK hD n9 _ h
theorem hd_mw_ahead : yX7_ahead.cls = RX7 ∧ yX7_ahead.cls ≠ "java/lang/invoke/MethodHandle" ∧ yX7_ahead.cls ≠ "java/lang/invoke/VarHandle" ∧ (parseMethodDescriptor yX7_ahead.desc).map (fun d => d.parameters.length) = some 0 := by decide +kernel
theorem kmw_ahead {X : JC} {Q : State → Prop} {nL k n pc : Nat} {lv : List (Nat × Value)} {st : List Value} {own : String} {cc : ByteArray} {ret : Option FieldType} {F LL mc ms ix : Nat} {D : va_G} {dA ad : Nat → Nat} {u : MS} {Post : MS → Prop} (hX : JX X own cc nL ret F LL mc ms) (hK : KM D dA (jj_s X)) (hD : MD ad) (hlk : (Cond.methodLink own ix yX7_ahead) ∈ lw_all) (hF : 1 + 1 ≤ F) (hL : 8 + (2 + 11) + 21 ≤ LL) (hk : k ≤ mc) (hk2 : n ≤ ms) (hw : (st.map fun v => v.category).sum ≤ 8) (d : decode cc pc = .ok (.invokevirtual ix, 3)) (q : Nat) (hq : pc + 3 = q) (h : mw_ahead  u Post) (kk : ∀ u2 : MS, Post u2 → JJ X (AM ad) Q nL (MW D dA ad u2) k n q lv st) : JJ X (AM ad) Q nL (MW D dA ad u) k n pc lv (.ref (ad 0) :: st) :=
  jm_callv (na := 0) (As := []) hX hK (mmw_ahead (jj_l X) D dA ad hD  u Post h) hlk q1688 qs63 q129 q1689 hd_mw_ahead rfl rfl hw hF hL hk hk2 d q hq kk
def mw_begins_L26_S (Post : Int32 → MS → Prop) (x1 : Int32) (R : Int32 → MS → Prop) (x3 : Int32) (u : MS) : Prop :=
  (x1 ≤ x3 →
    ∀ u51 : MS, u51 = jm_s u 0 9 (0 : Int32) →
    ∀ u56 : MS, u56 = jm_s u51 0 17 (0 : Int32) →
    ∀ u61 : MS, u61 = jm_s u56 0 16 (-1 : Int32) →
    ∀ u66 : MS, u66 = jm_s u61 0 13 (0 : Int32) →
    ∀ u71 : MS, u71 = jm_s u66 0 18 (0 : Int32) →
    mw_ahead u71 (fun u75 =>
      Post (1 : Int32) u75)) ∧
  (¬ x1 ≤ x3 →
    vp_in x3 900 ∧
    vp_in x3 900 ∧
    ∀ u42 : MS, u42 = jm_s u 6 x3.toNatClampNeg (jm_i u 5 x3.toNatClampNeg).toInt8.toInt32 →
    ∀ v43 : Int32, v43 = x3 + (1 : Int32) →
    R v43 u42)
def mw_begins_L26 (Post : Int32 → MS → Prop) (x1 : Int32) : Nat → Int32 → MS → Prop
  | 0 => fun _ _ => False
  | n + 1 => fun x3 u => mw_begins_L26_S Post x1 (mw_begins_L26 Post x1 n) x3 u
/-- RaisedPressModel.begins(II)Z -/
def mw_begins (x1 : Int32) (x2 : Int32) (u : MS) (Post : Int32 → MS → Prop) : Prop :=
  (x1 < 0 →
    Post (0 : Int32) u) ∧
  (¬ x1 < 0 →
    ((jm_i u 0 9) < x1 →
      Post (0 : Int32) u) ∧
    (¬ (jm_i u 0 9) < x1 →
      (x1 ≤ x2 →
        ∀ u21 : MS, u21 = jm_s u 0 10 x1 →
        ∃ n, mw_begins_L26 Post x1 n (0 : Int32) u21) ∧
      (¬ x1 ≤ x2 →
        Post (0 : Int32) u)))
set_option maxHeartbeats 4000000 in
set_option maxRecDepth 100000 in
theorem tmw_begins_L26 {X : JC} {D : va_G} {dA ad : Nat → Nat} {Post : Int32 → MS → Prop} {x1 : Int32} (hX : JX X yX7_begins.cls cX7_begins 4 (Option.some Jvm.ClassFile.FieldType.boolean) 2 42 0 0) (hK : KM D dA (jj_s X)) (hD : MD ad) : ∀ (n : Nat) (x3 : Int32) (u : MS), mw_begins_L26 Post x1 n x3 u → JJ X (AM ad) (jj_Q X (va_Qi (fun r u => Post r u ∧ jj_z r) (jm_B D dA ad) (AM ad)) 0 0 (AM ad)) 4 (MW D dA ad u) 0 0 26 [(0, .ref (ad 0)), (1, .int x1), (3, .int x3)] [] := by
  intro n
  induction n with
  | zero =>
    intro x3 u h
    exact h.elim
  | succ n ih =>
    intro x3 u h
    have h : mw_begins_L26_S Post x1 (mw_begins_L26 Post x1 n) x3 u := h
    unfold mw_begins_L26_S at h
    refine jj_iload_n hX dX7_begins_26 2 rfl 27 rfl ?_
    refine jj_iload_n hX dX7_begins_27 1 rfl 28 rfl ?_
    refine jj_icmp_ge hX dX7_begins_28 49 31 (by decide) rfl (fun c28 => ?_) (fun c28 => ?_)
    · have h := h.1 c28
      refine jj_aload_n hX dX7_begins_49 0 rfl 50 rfl ?_
      refine jj_iconst hX dX7_begins_50 ci_0 51 rfl ?_
      refine jp_9 hX hK hD dX7_begins_51 q1493 54 rfl (fun u51 e51 => ?_)
      have h := h u51 e51
      refine jj_aload_n hX dX7_begins_54 0 rfl 55 rfl ?_
      refine jj_iconst hX dX7_begins_55 ci_0 56 rfl ?_
      refine jp_17 hX hK hD dX7_begins_56 q1501 59 rfl (fun u56 e56 => ?_)
      have h := h u56 e56
      refine jj_aload_n hX dX7_begins_59 0 rfl 60 rfl ?_
      refine jj_iconst hX dX7_begins_60 ci_m1 61 rfl ?_
      refine jp_16 hX hK hD dX7_begins_61 q1500 64 rfl (fun u61 e61 => ?_)
      have h := h u61 e61
      refine jj_aload_n hX dX7_begins_64 0 rfl 65 rfl ?_
      refine jj_iconst hX dX7_begins_65 ci_0 66 rfl ?_
      refine jp_13 hX hK hD dX7_begins_66 q1497 69 rfl (fun u66 e66 => ?_)
      have h := h u66 e66
      refine jj_aload_n hX dX7_begins_69 0 rfl 70 rfl ?_
      refine jj_iconst hX dX7_begins_70 ci_0 71 rfl ?_
      refine jp_18 hX hK hD dX7_begins_71 q1502 74 rfl (fun u71 e71 => ?_)
      have h := h u71 e71
      refine jj_aload_n hX dX7_begins_74 0 rfl 75 rfl ?_
      refine kmw_ahead hX hK hD q1686 (Nat.le_of_ble_eq_true rfl) (Nat.le_of_ble_eq_true rfl) (Nat.zero_le _) (Nat.zero_le _) (Nat.le_of_ble_eq_true rfl) dX7_begins_75 78 rfl h (fun u75 h => ?_)
      refine jj_iconst hX dX7_begins_78 ci_1 79 rfl ?_
      exact jj_retz (post := Post) (u := u75) hX dX7_begins_79 (Nat.le_refl 0) (Nat.le_refl 0) jm_hB jj_z1 h
    · have h := h.2 c28
      refine jt_8 hX hK dX7_begins_31 0 rfl dX7_begins_32 q1492 35 rfl rfl ?_
      refine jj_iload_n hX dX7_begins_35 2 rfl 36 rfl ?_
      refine jt_7 hX hK dX7_begins_36 0 rfl dX7_begins_37 q1491 40 rfl rfl ?_
      refine jj_iload_n hX dX7_begins_40 2 rfl 41 rfl ?_
      obtain ⟨hi41, h⟩ := h
      refine jr_5 hX hK _ rfl hi41 dX7_begins_41 42 rfl ?_
      obtain ⟨hi42, h⟩ := h
      refine jw_6 hX hK hD _ rfl hi42 dX7_begins_42 43 rfl (fun u42 e42 => ?_)
      have h := h u42 e42
      obtain ⟨v43, e43⟩ : ∃ y : Int32, y = x3 + (1 : Int32) := ⟨_, rfl⟩
      have h := h v43 e43
      refine jj_iinc (v := v43) (lv2 := [(0, .ref (ad 0)), (1, .int x1), (3, .int v43)]) hX dX7_begins_43 2 rfl (by rw [e43, ci_1]) (Nat.le_of_ble_eq_true rfl) [1, 2, 0] rfl 46 rfl ?_
      refine jj_goto hX dX7_begins_46 26 (by decide) ?_
      exact ih _ _ h
set_option maxHeartbeats 4000000 in
set_option maxRecDepth 100000 in
theorem mmw_begins (l : Launch) (D : va_G) (dA ad : Nat → Nat) (hD : MD ad) (x1 : Int32) (x2 : Int32) (u : MS) (Post : Int32 → MS → Prop) (h : mw_begins x1 x2 u Post) : Met l yX7_begins (ws_ yX7_begins cX7_begins 4 (Option.some Jvm.ClassFile.FieldType.boolean)) (jm_rm 2 42) (jm_Pc D dA ad u [.int x1, .int x2]) (va_Qi (fun r u => Post r u ∧ jj_z r) (jm_B D dA ad) (AM ad)) 0 0 (AM ad) := by
  refine jm_start [.int x1, .int x2] [(0, .ref (ad 0)), (1, .int x1), (2, .int x2)] (by decide) (Nat.le_of_ble_eq_true rfl) rfl (fun X hX hK => ?_)
  unfold mw_begins at h
  refine jj_iload_n hX dX7_begins_0 1 rfl 1 rfl ?_
  refine jj_if_lt hX dX7_begins_1 17 4 (by decide) rfl (fun c1 => ?_) (fun c1 => ?_)
  · have h := h.1 c1
    refine jj_iconst hX dX7_begins_17 ci_0 18 rfl ?_
    exact jj_retz (post := Post) (u := u) hX dX7_begins_18 (Nat.le_refl 0) (Nat.le_refl 0) jm_hB jj_z0 h
  · have h := h.2 c1
    refine jj_iload_n hX dX7_begins_4 1 rfl 5 rfl ?_
    refine jt_9 hX hK dX7_begins_5 0 rfl dX7_begins_6 q1493 9 rfl rfl ?_
    refine jj_icmp_gt hX dX7_begins_9 17 12 (by decide) rfl (fun c9 => ?_) (fun c9 => ?_)
    · have h := h.1 c9
      refine jj_iconst hX dX7_begins_17 ci_0 18 rfl ?_
      exact jj_retz (post := Post) (u := u) hX dX7_begins_18 (Nat.le_refl 0) (Nat.le_refl 0) jm_hB jj_z0 h
    · have h := h.2 c9
      refine jj_iload_n hX dX7_begins_12 1 rfl 13 rfl ?_
      refine jj_iload_n hX dX7_begins_13 2 rfl 14 rfl ?_
      refine jj_icmp_le hX dX7_begins_14 19 17 (by decide) rfl (fun c14 => ?_) (fun c14 => ?_)
      · have h := h.1 c14
        refine jj_aload_n hX dX7_begins_19 0 rfl 20 rfl ?_
        refine jj_iload_n hX dX7_begins_20 1 rfl 21 rfl ?_
        refine jp_10 hX hK hD dX7_begins_21 q1494 24 rfl (fun u21 e21 => ?_)
        have h := h u21 e21
        refine jj_iconst hX dX7_begins_24 ci_0 25 rfl ?_
        refine jj_istore_n (lv2 := [(0, .ref (ad 0)), (1, .int x1), (3, .int (0 : Int32))]) hX dX7_begins_25 (Nat.le_of_ble_eq_true rfl) [1, 2, 0] rfl 26 rfl ?_
        obtain ⟨n9, h⟩ := h
        exact tmw_begins_L26 hX hK hD n9 _ _ h
      · have h := h.2 c14
        refine jj_iconst hX dX7_begins_17 ci_0 18 rfl ?_
        exact jj_retz (post := Post) (u := u) hX dX7_begins_18 (Nat.le_refl 0) (Nat.le_refl 0) jm_hB jj_z0 h
theorem hd_mw_begins : yX7_begins.cls = RX7 ∧ yX7_begins.cls ≠ "java/lang/invoke/MethodHandle" ∧ yX7_begins.cls ≠ "java/lang/invoke/VarHandle" ∧ (parseMethodDescriptor yX7_begins.desc).map (fun d => d.parameters.length) = some 2 := by decide +kernel
theorem kmw_begins {X : JC} {Q : State → Prop} {nL k n pc : Nat} {lv : List (Nat × Value)} {st : List Value} {own : String} {cc : ByteArray} {ret : Option FieldType} {F LL mc ms ix : Nat} {D : va_G} {dA ad : Nat → Nat} {x1 : Int32} {x2 : Int32} {u : MS} {Post : Int32 → MS → Prop} (hX : JX X own cc nL ret F LL mc ms) (hK : KM D dA (jj_s X)) (hD : MD ad) (hlk : (Cond.methodLink own ix yX7_begins) ∈ lw_all) (hF : 2 + 1 ≤ F) (hL : 8 + (4 + 11) + 42 ≤ LL) (hk : k ≤ mc) (hk2 : n ≤ ms) (hw : (st.map fun v => v.category).sum ≤ 8) (d : decode cc pc = .ok (.invokevirtual ix, 3)) (q : Nat) (hq : pc + 3 = q) (h : mw_begins x1 x2 u Post) (kk : ∀ (r : Int32) (u2 : MS), jj_z r → Post r u2 → JJ X (AM ad) Q nL (MW D dA ad u2) k n q lv (.int r :: st)) : JJ X (AM ad) Q nL (MW D dA ad u) k n pc lv (.int x2 :: .int x1 :: .ref (ad 0) :: st) :=
  jm_callz (na := 2) (As := [.int x1, .int x2]) hX hK (mmw_begins (jj_l X) D dA ad hD x1 x2 u Post h) hlk q1684 qs62 q129 q1685 hd_mw_begins rfl rfl hw hF hL hk hk2 d q hq kk
/-- RaisedPressModel.refuse(I)I -/
def mw_refuse (x1 : Int32) (u : MS) (Post : Int32 → MS → Prop) : Prop :=
  ∀ u2 : MS, u2 = jm_s u 0 1 x1 →
  Post (-1 : Int32) u2
set_option maxHeartbeats 4000000 in
set_option maxRecDepth 100000 in
theorem mmw_refuse (l : Launch) (D : va_G) (dA ad : Nat → Nat) (hD : MD ad) (x1 : Int32) (u : MS) (Post : Int32 → MS → Prop) (h : mw_refuse x1 u Post) : Met l yX7_refuse (ws_ yX7_refuse cX7_refuse 2 (Option.some Jvm.ClassFile.FieldType.int)) (jm_rm 0 0) (jm_Pc D dA ad u [.int x1]) (va_Qi Post (jm_B D dA ad) (AM ad)) 0 0 (AM ad) := by
  refine jm_start [.int x1] [(0, .ref (ad 0)), (1, .int x1)] (by decide) (Nat.le_of_ble_eq_true rfl) rfl (fun X hX hK => ?_)
  unfold mw_refuse at h
  refine jj_aload_n hX dX7_refuse_0 0 rfl 1 rfl ?_
  refine jj_iload_n hX dX7_refuse_1 1 rfl 2 rfl ?_
  refine jp_1 hX hK hD dX7_refuse_2 q1485 5 rfl (fun u2 e2 => ?_)
  have h := h u2 e2
  refine jj_iconst hX dX7_refuse_5 ci_m1 6 rfl ?_
  exact jj_reti (post := Post) (u := u2) hX dX7_refuse_6 (Nat.le_refl 0) (Nat.le_refl 0) jm_hB h
theorem hd_mw_refuse : yX7_refuse.cls = RX7 ∧ yX7_refuse.cls ≠ "java/lang/invoke/MethodHandle" ∧ yX7_refuse.cls ≠ "java/lang/invoke/VarHandle" ∧ (parseMethodDescriptor yX7_refuse.desc).map (fun d => d.parameters.length) = some 1 := by decide +kernel
theorem kmw_refuse {X : JC} {Q : State → Prop} {nL k n pc : Nat} {lv : List (Nat × Value)} {st : List Value} {own : String} {cc : ByteArray} {ret : Option FieldType} {F LL mc ms ix : Nat} {D : va_G} {dA ad : Nat → Nat} {x1 : Int32} {u : MS} {Post : Int32 → MS → Prop} (hX : JX X own cc nL ret F LL mc ms) (hK : KM D dA (jj_s X)) (hD : MD ad) (hlk : (Cond.methodLink own ix yX7_refuse) ∈ lw_all) (hF : 0 + 1 ≤ F) (hL : 8 + (2 + 11) + 0 ≤ LL) (hk : k ≤ mc) (hk2 : n ≤ ms) (hw : (st.map fun v => v.category).sum ≤ 8) (d : decode cc pc = .ok (.invokevirtual ix, 3)) (q : Nat) (hq : pc + 3 = q) (h : mw_refuse x1 u Post) (kk : ∀ (r : Int32) (u2 : MS), Post r u2 → JJ X (AM ad) Q nL (MW D dA ad u2) k n q lv (.int r :: st)) : JJ X (AM ad) Q nL (MW D dA ad u) k n pc lv (.int x1 :: .ref (ad 0) :: st) :=
  jm_calli (na := 1) (As := [.int x1]) hX hK (mmw_refuse (jj_l X) D dA ad hD x1 u Post h) hlk q1704 qs65 q129 q1705 hd_mw_refuse rfl rfl hw hF hL hk hk2 d q hq kk
/-- RaisedPressModel.ruleAt(II)I -/
def mw_ruleAt (x0 : Int32) (x1 : Int32) (Post : Int32 → Prop) : Prop :=
  Post ((x0 + (12 : Int32)) + ((12 : Int32) * x1))
set_option maxHeartbeats 4000000 in
set_option maxRecDepth 100000 in
theorem mmw_ruleAt (l : Launch) (x0 : Int32) (x1 : Int32) (Post : Int32 → Prop) (h : mw_ruleAt x0 x1 Post) : Met l yX7_ruleAt (ws_ yX7_ruleAt cX7_ruleAt 2 (Option.some Jvm.ClassFile.FieldType.int)) (jm_rm 0 0) (js_Pc [.int x0, .int x1]) (va_Qi (fun r (_ : Unit) => Post r) js_B js_A) 0 0 js_A := by
  refine js_start [.int x0, .int x1] [(0, .int x0), (1, .int x1)] (by decide) (Nat.le_of_ble_eq_true rfl) rfl (fun X hX => ?_)
  unfold mw_ruleAt at h
  refine jj_iload_n hX dX7_ruleAt_0 0 rfl 1 rfl ?_
  refine jj_bipush hX dX7_ruleAt_1 cb_12 3 rfl ?_
  refine jj_iadd hX dX7_ruleAt_3 4 rfl ?_
  refine jj_bipush hX dX7_ruleAt_4 cb_12 6 rfl ?_
  refine jj_iload_n hX dX7_ruleAt_6 1 rfl 7 rfl ?_
  refine jj_imul hX dX7_ruleAt_7 8 rfl ?_
  refine jj_iadd hX dX7_ruleAt_8 9 rfl ?_
  exact jj_reti (post := (fun r (_ : Unit) => Post r)) (u := ()) hX dX7_ruleAt_9 (Nat.le_refl 0) (Nat.le_refl 0) js_hB h
theorem hd_mw_ruleAt : yX7_ruleAt.cls ≠ "java/lang/invoke/MethodHandle" ∧ yX7_ruleAt.cls ≠ "java/lang/invoke/VarHandle" ∧ (parseMethodDescriptor yX7_ruleAt.desc).map (fun d => d.parameters.length) = some 2 := by decide +kernel
theorem kmw_ruleAt {X : JC} {A : Nat → Prop} {Q : State → Prop} {P : Heap → Prop} {nL k n pc : Nat} {lv : List (Nat × Value)} {st : List Value} {own : String} {cc : ByteArray} {ret : Option FieldType} {F LL mc ms ix : Nat} {x0 : Int32} {x1 : Int32} {Post : Int32 → Prop} (hX : JX X own cc nL ret F LL mc ms) (hKP : jj_Keeps P) (hlk : (Cond.methodLink own ix yX7_ruleAt) ∈ lw_all) (hF : 0 + 1 ≤ F) (hL : 8 + (2 + 11) + 0 ≤ LL) (hk : k ≤ mc) (hk2 : n ≤ ms) (hw : (st.map fun v => v.category).sum ≤ 8) (d : decode cc pc = .ok (.invokestatic ix, 3)) (q : Nat) (hq : pc + 3 = q) (h : mw_ruleAt x0 x1 Post) (kk : ∀ r : Int32, Post r → JJ X A Q nL P k n q lv (.int r :: st)) : JJ X A Q nL P k n pc lv (.int x1 :: .int x0 :: st) :=
  js_calli (na := 2) (As := [.int x0, .int x1]) hX hKP (mmw_ruleAt (jj_l X) x0 x1 Post h) hlk q1722 q129 q1723 hd_mw_ruleAt rfl rfl hw hF hL hk hk2 d q hq kk
/-- RaisedPressModel.fails(I)Z -/
def mw_fails (x1 : Int32) (u : MS) (Post : Int32 → MS → Prop) : Prop :=
  (¬ (jm_i u 0 17) = 0 →
    Post (0 : Int32) u) ∧
  ((jm_i u 0 17) = 0 →
    (¬ (jm_i u 0 11) = (1 : Int32) →
      ∀ u21 : MS, u21 = jm_s u 0 17 x1 →
      ∀ u29 : MS, u29 = jm_s u21 0 16 (jm_i u21 0 12) →
      Post (0 : Int32) u29) ∧
    ((jm_i u 0 11) = (1 : Int32) →
      ∀ u21 : MS, u21 = jm_s u 0 17 (1 : Int32) →
      ∀ u29 : MS, u29 = jm_s u21 0 16 (jm_i u21 0 12) →
      Post (0 : Int32) u29))
set_option maxHeartbeats 4000000 in
set_option maxRecDepth 100000 in
theorem mmw_fails (l : Launch) (D : va_G) (dA ad : Nat → Nat) (hD : MD ad) (x1 : Int32) (u : MS) (Post : Int32 → MS → Prop) (h : mw_fails x1 u Post) : Met l yX7_fails (ws_ yX7_fails cX7_fails 2 (Option.some Jvm.ClassFile.FieldType.boolean)) (jm_rm 0 0) (jm_Pc D dA ad u [.int x1]) (va_Qi (fun r u => Post r u ∧ jj_z r) (jm_B D dA ad) (AM ad)) 0 0 (AM ad) := by
  refine jm_start [.int x1] [(0, .ref (ad 0)), (1, .int x1)] (by decide) (Nat.le_of_ble_eq_true rfl) rfl (fun X hX hK => ?_)
  unfold mw_fails at h
  refine jt_17 hX hK dX7_fails_0 0 rfl dX7_fails_1 q1501 4 rfl rfl ?_
  refine jj_if_ne hX dX7_fails_4 32 7 (by decide) rfl (fun c4 => ?_) (fun c4 => ?_)
  · have h := h.1 c4
    refine jj_iconst hX dX7_fails_32 ci_0 33 rfl ?_
    exact jj_retz (post := Post) (u := u) hX dX7_fails_33 (Nat.le_refl 0) (Nat.le_refl 0) jm_hB jj_z0 h
  · have h := h.2 c4
    refine jj_aload_n hX dX7_fails_7 0 rfl 8 rfl ?_
    refine jt_11 hX hK dX7_fails_8 0 rfl dX7_fails_9 q1495 12 rfl rfl ?_
    refine jj_iconst hX dX7_fails_12 ci_1 13 rfl ?_
    refine jj_icmp_ne hX dX7_fails_13 20 16 (by decide) rfl (fun c13 => ?_) (fun c13 => ?_)
    · have h := h.1 c13
      refine jj_iload_n hX dX7_fails_20 1 rfl 21 rfl ?_
      refine jp_17 hX hK hD dX7_fails_21 q1501 24 rfl (fun u21 e21 => ?_)
      have h := h u21 e21
      refine jj_aload_n hX dX7_fails_24 0 rfl 25 rfl ?_
      refine jt_12 hX hK dX7_fails_25 0 rfl dX7_fails_26 q1496 29 rfl rfl ?_
      refine jp_16 hX hK hD dX7_fails_29 q1500 32 rfl (fun u29 e29 => ?_)
      have h := h u29 e29
      refine jj_iconst hX dX7_fails_32 ci_0 33 rfl ?_
      exact jj_retz (post := Post) (u := u29) hX dX7_fails_33 (Nat.le_refl 0) (Nat.le_refl 0) jm_hB jj_z0 h
    · have h := h.2 c13
      refine jj_iconst hX dX7_fails_16 ci_1 17 rfl ?_
      refine jj_goto hX dX7_fails_17 21 (by decide) ?_
      refine jp_17 hX hK hD dX7_fails_21 q1501 24 rfl (fun u21 e21 => ?_)
      have h := h u21 e21
      refine jj_aload_n hX dX7_fails_24 0 rfl 25 rfl ?_
      refine jt_12 hX hK dX7_fails_25 0 rfl dX7_fails_26 q1496 29 rfl rfl ?_
      refine jp_16 hX hK hD dX7_fails_29 q1500 32 rfl (fun u29 e29 => ?_)
      have h := h u29 e29
      refine jj_iconst hX dX7_fails_32 ci_0 33 rfl ?_
      exact jj_retz (post := Post) (u := u29) hX dX7_fails_33 (Nat.le_refl 0) (Nat.le_refl 0) jm_hB jj_z0 h
theorem hd_mw_fails : yX7_fails.cls = RX7 ∧ yX7_fails.cls ≠ "java/lang/invoke/MethodHandle" ∧ yX7_fails.cls ≠ "java/lang/invoke/VarHandle" ∧ (parseMethodDescriptor yX7_fails.desc).map (fun d => d.parameters.length) = some 1 := by decide +kernel
theorem kmw_fails {X : JC} {Q : State → Prop} {nL k n pc : Nat} {lv : List (Nat × Value)} {st : List Value} {own : String} {cc : ByteArray} {ret : Option FieldType} {F LL mc ms ix : Nat} {D : va_G} {dA ad : Nat → Nat} {x1 : Int32} {u : MS} {Post : Int32 → MS → Prop} (hX : JX X own cc nL ret F LL mc ms) (hK : KM D dA (jj_s X)) (hD : MD ad) (hlk : (Cond.methodLink own ix yX7_fails) ∈ lw_all) (hF : 0 + 1 ≤ F) (hL : 8 + (2 + 11) + 0 ≤ LL) (hk : k ≤ mc) (hk2 : n ≤ ms) (hw : (st.map fun v => v.category).sum ≤ 8) (d : decode cc pc = .ok (.invokevirtual ix, 3)) (q : Nat) (hq : pc + 3 = q) (h : mw_fails x1 u Post) (kk : ∀ (r : Int32) (u2 : MS), jj_z r → Post r u2 → JJ X (AM ad) Q nL (MW D dA ad u2) k n q lv (.int r :: st)) : JJ X (AM ad) Q nL (MW D dA ad u) k n pc lv (.int x1 :: .ref (ad 0) :: st) :=
  jm_callz (na := 1) (As := [.int x1]) hX hK (mmw_fails (jj_l X) D dA ad hD x1 u Post h) hlk q1726 qs69 q129 q1727 hd_mw_fails rfl rfl hw hF hL hk hk2 d q hq kk
