set_option linter.unusedVariables false
def mw_takesSet_L35_S (Post : MS → Prop) (R : Int32 → MS → Prop) (x1 : Int32) (u : MS) : Prop :=
  ((3300 : Int32) ≤ x1 →
    Post u) ∧
  (¬ (3300 : Int32) ≤ x1 →
    vp_in ((16500 : Int32) + x1) 19800 ∧
    vp_in x1 19800 ∧
    ∀ u57 : MS, u57 = jm_s u 1 x1.toNatClampNeg (jm_i u 1 ((16500 : Int32) + x1).toNatClampNeg) →
    ∀ v58 : Int32, v58 = x1 + (1 : Int32) →
    R v58 u57)
def mw_takesSet_L35 (Post : MS → Prop) : Nat → Int32 → MS → Prop
  | 0 => fun _ _ => False
  | n + 1 => fun x1 u => mw_takesSet_L35_S Post (mw_takesSet_L35 Post n) x1 u
def mw_takesSet_L3_S (Post : MS → Prop) (R : Int32 → MS → Prop) (x1 : Int32) (u : MS) : Prop :=
  ((12 : Int32) ≤ x1 →
    ∃ n, mw_takesSet_L35 Post n (300 : Int32) u) ∧
  (¬ (12 : Int32) ≤ x1 →
    vp_in ((16500 : Int32) + x1) 19800 ∧
    vp_in x1 19800 ∧
    ∀ u24 : MS, u24 = jm_s u 1 x1.toNatClampNeg (jm_i u 1 ((16500 : Int32) + x1).toNatClampNeg) →
    ∀ v25 : Int32, v25 = x1 + (1 : Int32) →
    R v25 u24)
def mw_takesSet_L3 (Post : MS → Prop) : Nat → Int32 → MS → Prop
  | 0 => fun _ _ => False
  | n + 1 => fun x1 u => mw_takesSet_L3_S Post (mw_takesSet_L3 Post n) x1 u
/-- RaisedPressModel.takesSet()V -/
def mw_takesSet (u : MS) (Post : MS → Prop) : Prop :=
  ∃ n, mw_takesSet_L3 Post n (7 : Int32) u
set_option maxHeartbeats 4000000 in
set_option maxRecDepth 100000 in
theorem tmw_takesSet_L35 {X : JC} {D : va_G} {dA ad : Nat → Nat} {Post : MS → Prop} (hX : JX X yX7_takesSet.cls cX7_takesSet 2 (Option.none : Option Jvm.ClassFile.FieldType) 0 0 0 0) (hK : KM D dA (jj_s X)) (hD : MD ad) : ∀ (n : Nat) (x1 : Int32) (u : MS), mw_takesSet_L35 Post n x1 u → JJ X (AM ad) (jj_Q X (va_Qv Post (jm_B D dA ad) (AM ad)) 0 0 (AM ad)) 2 (MW D dA ad u) 0 0 35 [(0, .ref (ad 0)), (1, .int x1)] [] := by
  intro n
  induction n with
  | zero =>
    intro x1 u h
    exact h.elim
  | succ n ih =>
    intro x1 u h
    have h : mw_takesSet_L35_S Post (mw_takesSet_L35 Post n) x1 u := h
    unfold mw_takesSet_L35_S at h
    refine jj_iload_n hX dX7_takesSet_35 1 rfl 36 rfl ?_
    refine jj_sipush hX dX7_takesSet_36 cs_3300 39 rfl ?_
    refine jj_icmp_ge hX dX7_takesSet_39 64 42 (by decide) rfl (fun c39 => ?_) (fun c39 => ?_)
    · have h := h.1 c39
      exact jj_retv hX dX7_takesSet_64 (Nat.le_refl 0) (Nat.le_refl 0) jm_hB h
    · have h := h.2 c39
      refine jt_0 hX hK dX7_takesSet_42 0 rfl dX7_takesSet_43 q1484 46 rfl rfl ?_
      refine jj_iload_n hX dX7_takesSet_46 1 rfl 47 rfl ?_
      refine jt_0 hX hK dX7_takesSet_47 0 rfl dX7_takesSet_48 q1484 51 rfl rfl ?_
      refine jj_sipush hX dX7_takesSet_51 cs_16500 54 rfl ?_
      refine jj_iload_n hX dX7_takesSet_54 1 rfl 55 rfl ?_
      refine jj_iadd hX dX7_takesSet_55 56 rfl ?_
      obtain ⟨hi56, h⟩ := h
      refine jr_1 hX hK _ rfl hi56 dX7_takesSet_56 57 rfl ?_
      obtain ⟨hi57, h⟩ := h
      refine jw_1 hX hK hD _ rfl hi57 dX7_takesSet_57 58 rfl (fun u57 e57 => ?_)
      have h := h u57 e57
      obtain ⟨v58, e58⟩ : ∃ y : Int32, y = x1 + (1 : Int32) := ⟨_, rfl⟩
      have h := h v58 e58
      refine jj_iinc (v := v58) (lv2 := [(0, .ref (ad 0)), (1, .int v58)]) hX dX7_takesSet_58 1 rfl (by rw [e58, ci_1]) (Nat.le_of_ble_eq_true rfl) [1, 0] rfl 61 rfl ?_
      refine jj_goto hX dX7_takesSet_61 35 (by decide) ?_
      exact ih _ _ h
set_option maxHeartbeats 4000000 in
set_option maxRecDepth 100000 in
theorem tmw_takesSet_L3 {X : JC} {D : va_G} {dA ad : Nat → Nat} {Post : MS → Prop} (hX : JX X yX7_takesSet.cls cX7_takesSet 2 (Option.none : Option Jvm.ClassFile.FieldType) 0 0 0 0) (hK : KM D dA (jj_s X)) (hD : MD ad) : ∀ (n : Nat) (x1 : Int32) (u : MS), mw_takesSet_L3 Post n x1 u → JJ X (AM ad) (jj_Q X (va_Qv Post (jm_B D dA ad) (AM ad)) 0 0 (AM ad)) 2 (MW D dA ad u) 0 0 3 [(0, .ref (ad 0)), (1, .int x1)] [] := by
  intro n
  induction n with
  | zero =>
    intro x1 u h
    exact h.elim
  | succ n ih =>
    intro x1 u h
    have h : mw_takesSet_L3_S Post (mw_takesSet_L3 Post n) x1 u := h
    unfold mw_takesSet_L3_S at h
    refine jj_iload_n hX dX7_takesSet_3 1 rfl 4 rfl ?_
    refine jj_bipush hX dX7_takesSet_4 cb_12 6 rfl ?_
    refine jj_icmp_ge hX dX7_takesSet_6 31 9 (by decide) rfl (fun c6 => ?_) (fun c6 => ?_)
    · have h := h.1 c6
      refine jj_sipush hX dX7_takesSet_31 cs_300 34 rfl ?_
      refine jj_istore_n (lv2 := [(0, .ref (ad 0)), (1, .int (300 : Int32))]) hX dX7_takesSet_34 (Nat.le_of_ble_eq_true rfl) [1, 0] rfl 35 rfl ?_
      obtain ⟨n9, h⟩ := h
      exact tmw_takesSet_L35 hX hK hD n9 _ _ h
    · have h := h.2 c6
      refine jt_0 hX hK dX7_takesSet_9 0 rfl dX7_takesSet_10 q1484 13 rfl rfl ?_
      refine jj_iload_n hX dX7_takesSet_13 1 rfl 14 rfl ?_
      refine jt_0 hX hK dX7_takesSet_14 0 rfl dX7_takesSet_15 q1484 18 rfl rfl ?_
      refine jj_sipush hX dX7_takesSet_18 cs_16500 21 rfl ?_
      refine jj_iload_n hX dX7_takesSet_21 1 rfl 22 rfl ?_
      refine jj_iadd hX dX7_takesSet_22 23 rfl ?_
      obtain ⟨hi23, h⟩ := h
      refine jr_1 hX hK _ rfl hi23 dX7_takesSet_23 24 rfl ?_
      obtain ⟨hi24, h⟩ := h
      refine jw_1 hX hK hD _ rfl hi24 dX7_takesSet_24 25 rfl (fun u24 e24 => ?_)
      have h := h u24 e24
      obtain ⟨v25, e25⟩ : ∃ y : Int32, y = x1 + (1 : Int32) := ⟨_, rfl⟩
      have h := h v25 e25
      refine jj_iinc (v := v25) (lv2 := [(0, .ref (ad 0)), (1, .int v25)]) hX dX7_takesSet_25 1 rfl (by rw [e25, ci_1]) (Nat.le_of_ble_eq_true rfl) [1, 0] rfl 28 rfl ?_
      refine jj_goto hX dX7_takesSet_28 3 (by decide) ?_
      exact ih _ _ h
set_option maxHeartbeats 4000000 in
set_option maxRecDepth 100000 in
theorem mmw_takesSet (l : Launch) (D : va_G) (dA ad : Nat → Nat) (hD : MD ad) (u : MS) (Post : MS → Prop) (h : mw_takesSet  u Post) : Met l yX7_takesSet (ws_ yX7_takesSet cX7_takesSet 2 (Option.none : Option Jvm.ClassFile.FieldType)) (jm_rm 0 0) (jm_Pc D dA ad u []) (va_Qv Post (jm_B D dA ad) (AM ad)) 0 0 (AM ad) := by
  refine jm_start [] [(0, .ref (ad 0))] (by decide) (Nat.le_of_ble_eq_true rfl) rfl (fun X hX hK => ?_)
  unfold mw_takesSet at h
  refine jj_bipush hX dX7_takesSet_0 cb_7 2 rfl ?_
  refine jj_istore_n (lv2 := [(0, .ref (ad 0)), (1, .int (7 : Int32))]) hX dX7_takesSet_2 (Nat.le_of_ble_eq_true rfl) [1, 0] rfl 3 rfl ?_
  obtain ⟨n9, h⟩ := h
  exact tmw_takesSet_L3 hX hK hD n9 _ _ h
theorem hd_mw_takesSet : yX7_takesSet.cls = RX7 ∧ yX7_takesSet.cls ≠ "java/lang/invoke/MethodHandle" ∧ yX7_takesSet.cls ≠ "java/lang/invoke/VarHandle" ∧ (parseMethodDescriptor yX7_takesSet.desc).map (fun d => d.parameters.length) = some 0 := by decide +kernel
theorem kmw_takesSet {X : JC} {Q : State → Prop} {nL k n pc : Nat} {lv : List (Nat × Value)} {st : List Value} {own : String} {cc : ByteArray} {ret : Option FieldType} {F LL mc ms ix : Nat} {D : va_G} {dA ad : Nat → Nat} {u : MS} {Post : MS → Prop} (hX : JX X own cc nL ret F LL mc ms) (hK : KM D dA (jj_s X)) (hD : MD ad) (hlk : (Cond.methodLink own ix yX7_takesSet) ∈ lw_all) (hF : 0 + 1 ≤ F) (hL : 8 + (2 + 11) + 0 ≤ LL) (hk : k ≤ mc) (hk2 : n ≤ ms) (hw : (st.map fun v => v.category).sum ≤ 8) (d : decode cc pc = .ok (.invokevirtual ix, 3)) (q : Nat) (hq : pc + 3 = q) (h : mw_takesSet  u Post) (kk : ∀ u2 : MS, Post u2 → JJ X (AM ad) Q nL (MW D dA ad u2) k n q lv st) : JJ X (AM ad) Q nL (MW D dA ad u) k n pc lv (.ref (ad 0) :: st) :=
  jm_callv (na := 0) (As := []) hX hK (mmw_takesSet (jj_l X) D dA ad hD  u Post h) hlk q1826 qs87 q129 q1827 hd_mw_takesSet rfl rfl hw hF hL hk hk2 d q hq kk
def mw_writing_L36_S (Post : Int32 → MS → Prop) (x1 : Int32) (R : Int32 → MS → Prop) (x2 : Int32) (u : MS) : Prop :=
  (x1 ≤ x2 →
    ∀ u69 : MS, u69 = jm_s u 0 9 (0 : Int32) →
    ∀ u74 : MS, u74 = jm_s u69 0 15 (0 : Int32) →
    ∀ u79 : MS, u79 = jm_s u74 0 16 (-1 : Int32) →
    mw_setsAll (jm_i u79 1 6) u79 (fun r90 u90 =>
      (¬ r90 = 0 →
        mw_takesSet u90 (fun u120 =>
          mw_gives (jm_i u120 1 8) u120 (fun r131 u131 =>
            Post r131 u131))) ∧
      (r90 = 0 →
        ∀ u101 : MS, u101 = jm_s u90 0 15 (jm_i u90 0 20) →
        ∀ u109 : MS, u109 = jm_s u101 0 16 (jm_i u101 0 21) →
        mw_refuse (9 : Int32) u109 (fun r115 u115 =>
          Post r115 u115)))) ∧
  (¬ x1 ≤ x2 →
    vp_in x2 900 ∧
    vp_in ((16800 : Int32) + x2) 19800 ∧
    ∀ u60 : MS, u60 = jm_s u 1 ((16800 : Int32) + x2).toNatClampNeg ((jm_i u 5 x2.toNatClampNeg) &&& (255 : Int32)) →
    ∀ v61 : Int32, v61 = x2 + (1 : Int32) →
    R v61 u60)
def mw_writing_L36 (Post : Int32 → MS → Prop) (x1 : Int32) : Nat → Int32 → MS → Prop
  | 0 => fun _ _ => False
  | n + 1 => fun x2 u => mw_writing_L36_S Post x1 (mw_writing_L36 Post x1 n) x2 u
/-- RaisedPressModel.writing(I)I -/
def mw_writing (x1 : Int32) (u : MS) (Post : Int32 → MS → Prop) : Prop :=
  (x1 < 0 →
    mw_refuse (1 : Int32) u (fun r21 u21 =>
      Post r21 u21)) ∧
  (¬ x1 < 0 →
    ((jm_i u 0 9) < x1 →
      mw_refuse (1 : Int32) u (fun r21 u21 =>
        Post r21 u21)) ∧
    (¬ (jm_i u 0 9) < x1 →
      (x1 ≤ (300 : Int32) →
        ∀ u33 : MS, u33 = jm_s u 1 16507 x1 →
        ∃ n, mw_writing_L36 Post x1 n (0 : Int32) u33) ∧
      (¬ x1 ≤ (300 : Int32) →
        mw_refuse (1 : Int32) u (fun r21 u21 =>
          Post r21 u21))))
set_option maxHeartbeats 4000000 in
set_option maxRecDepth 100000 in
theorem tmw_writing_L36 {X : JC} {D : va_G} {dA ad : Nat → Nat} {Post : Int32 → MS → Prop} {x1 : Int32} (hX : JX X yX7_writing.cls cX7_writing 3 (Option.some Jvm.ClassFile.FieldType.int) 6 141 0 0) (hK : KM D dA (jj_s X)) (hD : MD ad) : ∀ (n : Nat) (x2 : Int32) (u : MS), mw_writing_L36 Post x1 n x2 u → JJ X (AM ad) (jj_Q X (va_Qi Post (jm_B D dA ad) (AM ad)) 0 0 (AM ad)) 3 (MW D dA ad u) 0 0 36 [(0, .ref (ad 0)), (1, .int x1), (2, .int x2)] [] := by
  intro n
  induction n with
  | zero =>
    intro x2 u h
    exact h.elim
  | succ n ih =>
    intro x2 u h
    have h : mw_writing_L36_S Post x1 (mw_writing_L36 Post x1 n) x2 u := h
    unfold mw_writing_L36_S at h
    refine jj_iload_n hX dX7_writing_36 2 rfl 37 rfl ?_
    refine jj_iload_n hX dX7_writing_37 1 rfl 38 rfl ?_
    refine jj_icmp_ge hX dX7_writing_38 67 41 (by decide) rfl (fun c38 => ?_) (fun c38 => ?_)
    · have h := h.1 c38
      refine jj_aload_n hX dX7_writing_67 0 rfl 68 rfl ?_
      refine jj_iconst hX dX7_writing_68 ci_0 69 rfl ?_
      refine jp_9 hX hK hD dX7_writing_69 q1493 72 rfl (fun u69 e69 => ?_)
      have h := h u69 e69
      refine jj_aload_n hX dX7_writing_72 0 rfl 73 rfl ?_
      refine jj_iconst hX dX7_writing_73 ci_0 74 rfl ?_
      refine jp_15 hX hK hD dX7_writing_74 q1499 77 rfl (fun u74 e74 => ?_)
      have h := h u74 e74
      refine jj_aload_n hX dX7_writing_77 0 rfl 78 rfl ?_
      refine jj_iconst hX dX7_writing_78 ci_m1 79 rfl ?_
      refine jp_16 hX hK hD dX7_writing_79 q1500 82 rfl (fun u79 e79 => ?_)
      have h := h u79 e79
      refine jj_aload_n hX dX7_writing_82 0 rfl 83 rfl ?_
      refine jt_0 hX hK dX7_writing_83 0 rfl dX7_writing_84 q1484 87 rfl rfl ?_
      refine jj_bipush hX dX7_writing_87 cb_6 89 rfl ?_
      refine jr_1 hX hK 6 kc_6 vi_1_6 dX7_writing_89 90 rfl ?_
      refine kmw_setsAll hX hK hD q1760 (Nat.le_of_ble_eq_true rfl) (Nat.le_of_ble_eq_true rfl) (Nat.zero_le _) (Nat.zero_le _) (Nat.le_of_ble_eq_true rfl) dX7_writing_90 93 rfl h (fun r90 u90 hb90 h => ?_)
      refine jj_if_ne hX dX7_writing_93 119 96 (by decide) rfl (fun c93 => ?_) (fun c93 => ?_)
      · have h := h.1 c93
        refine jj_aload_n hX dX7_writing_119 0 rfl 120 rfl ?_
        refine kmw_takesSet hX hK hD q1824 (Nat.le_of_ble_eq_true rfl) (Nat.le_of_ble_eq_true rfl) (Nat.zero_le _) (Nat.zero_le _) (Nat.le_of_ble_eq_true rfl) dX7_writing_120 123 rfl h (fun u120 h => ?_)
        refine jj_aload_n hX dX7_writing_123 0 rfl 124 rfl ?_
        refine jt_0 hX hK dX7_writing_124 0 rfl dX7_writing_125 q1484 128 rfl rfl ?_
        refine jj_bipush hX dX7_writing_128 cb_8 130 rfl ?_
        refine jr_1 hX hK 8 kc_8 vi_1_8 dX7_writing_130 131 rfl ?_
        refine kmw_gives hX hK hD q1752 (Nat.le_of_ble_eq_true rfl) (Nat.le_of_ble_eq_true rfl) (Nat.zero_le _) (Nat.zero_le _) (Nat.le_of_ble_eq_true rfl) dX7_writing_131 134 rfl h (fun r131 u131 h => ?_)
        exact jj_reti (post := Post) (u := u131) hX dX7_writing_134 (Nat.le_refl 0) (Nat.le_refl 0) jm_hB h
      · have h := h.2 c93
        refine jj_aload_n hX dX7_writing_96 0 rfl 97 rfl ?_
        refine jt_20 hX hK dX7_writing_97 0 rfl dX7_writing_98 q1504 101 rfl rfl ?_
        refine jp_15 hX hK hD dX7_writing_101 q1499 104 rfl (fun u101 e101 => ?_)
        have h := h u101 e101
        refine jj_aload_n hX dX7_writing_104 0 rfl 105 rfl ?_
        refine jt_21 hX hK dX7_writing_105 0 rfl dX7_writing_106 q1505 109 rfl rfl ?_
        refine jp_16 hX hK hD dX7_writing_109 q1500 112 rfl (fun u109 e109 => ?_)
        have h := h u109 e109
        refine jj_aload_n hX dX7_writing_112 0 rfl 113 rfl ?_
        refine jj_bipush hX dX7_writing_113 cb_9 115 rfl ?_
        refine kmw_refuse hX hK hD q1702 (Nat.le_of_ble_eq_true rfl) (Nat.le_of_ble_eq_true rfl) (Nat.zero_le _) (Nat.zero_le _) (Nat.le_of_ble_eq_true rfl) dX7_writing_115 118 rfl h (fun r115 u115 h => ?_)
        exact jj_reti (post := Post) (u := u115) hX dX7_writing_118 (Nat.le_refl 0) (Nat.le_refl 0) jm_hB h
    · have h := h.2 c38
      refine jt_0 hX hK dX7_writing_41 0 rfl dX7_writing_42 q1484 45 rfl rfl ?_
      refine jj_sipush hX dX7_writing_45 cs_16800 48 rfl ?_
      refine jj_iload_n hX dX7_writing_48 2 rfl 49 rfl ?_
      refine jj_iadd hX dX7_writing_49 50 rfl ?_
      refine jt_7 hX hK dX7_writing_50 0 rfl dX7_writing_51 q1491 54 rfl rfl ?_
      refine jj_iload_n hX dX7_writing_54 2 rfl 55 rfl ?_
      obtain ⟨hi55, h⟩ := h
      refine jr_5 hX hK _ rfl hi55 dX7_writing_55 56 rfl ?_
      refine jj_sipush hX dX7_writing_56 cs_255 59 rfl ?_
      refine jj_iand hX dX7_writing_59 60 rfl ?_
      obtain ⟨hi60, h⟩ := h
      refine jw_1 hX hK hD _ rfl hi60 dX7_writing_60 61 rfl (fun u60 e60 => ?_)
      have h := h u60 e60
      obtain ⟨v61, e61⟩ : ∃ y : Int32, y = x2 + (1 : Int32) := ⟨_, rfl⟩
      have h := h v61 e61
      refine jj_iinc (v := v61) (lv2 := [(0, .ref (ad 0)), (1, .int x1), (2, .int v61)]) hX dX7_writing_61 2 rfl (by rw [e61, ci_1]) (Nat.le_of_ble_eq_true rfl) [1, 2, 0] rfl 64 rfl ?_
      refine jj_goto hX dX7_writing_64 36 (by decide) ?_
      exact ih _ _ h
set_option maxHeartbeats 4000000 in
set_option maxRecDepth 100000 in
theorem mmw_writing (l : Launch) (D : va_G) (dA ad : Nat → Nat) (hD : MD ad) (x1 : Int32) (u : MS) (Post : Int32 → MS → Prop) (h : mw_writing x1 u Post) : Met l yX7_writing (ws_ yX7_writing cX7_writing 3 (Option.some Jvm.ClassFile.FieldType.int)) (jm_rm 6 141) (jm_Pc D dA ad u [.int x1]) (va_Qi Post (jm_B D dA ad) (AM ad)) 0 0 (AM ad) := by
  refine jm_start [.int x1] [(0, .ref (ad 0)), (1, .int x1)] (by decide) (Nat.le_of_ble_eq_true rfl) rfl (fun X hX hK => ?_)
  unfold mw_writing at h
  refine jj_iload_n hX dX7_writing_0 1 rfl 1 rfl ?_
  refine jj_if_lt hX dX7_writing_1 19 4 (by decide) rfl (fun c1 => ?_) (fun c1 => ?_)
  · have h := h.1 c1
    refine jj_aload_n hX dX7_writing_19 0 rfl 20 rfl ?_
    refine jj_iconst hX dX7_writing_20 ci_1 21 rfl ?_
    refine kmw_refuse hX hK hD q1702 (Nat.le_of_ble_eq_true rfl) (Nat.le_of_ble_eq_true rfl) (Nat.zero_le _) (Nat.zero_le _) (Nat.le_of_ble_eq_true rfl) dX7_writing_21 24 rfl h (fun r21 u21 h => ?_)
    exact jj_reti (post := Post) (u := u21) hX dX7_writing_24 (Nat.le_refl 0) (Nat.le_refl 0) jm_hB h
  · have h := h.2 c1
    refine jj_iload_n hX dX7_writing_4 1 rfl 5 rfl ?_
    refine jt_9 hX hK dX7_writing_5 0 rfl dX7_writing_6 q1493 9 rfl rfl ?_
    refine jj_icmp_gt hX dX7_writing_9 19 12 (by decide) rfl (fun c9 => ?_) (fun c9 => ?_)
    · have h := h.1 c9
      refine jj_aload_n hX dX7_writing_19 0 rfl 20 rfl ?_
      refine jj_iconst hX dX7_writing_20 ci_1 21 rfl ?_
      refine kmw_refuse hX hK hD q1702 (Nat.le_of_ble_eq_true rfl) (Nat.le_of_ble_eq_true rfl) (Nat.zero_le _) (Nat.zero_le _) (Nat.le_of_ble_eq_true rfl) dX7_writing_21 24 rfl h (fun r21 u21 h => ?_)
      exact jj_reti (post := Post) (u := u21) hX dX7_writing_24 (Nat.le_refl 0) (Nat.le_refl 0) jm_hB h
    · have h := h.2 c9
      refine jj_iload_n hX dX7_writing_12 1 rfl 13 rfl ?_
      refine jj_sipush hX dX7_writing_13 cs_300 16 rfl ?_
      refine jj_icmp_le hX dX7_writing_16 25 19 (by decide) rfl (fun c16 => ?_) (fun c16 => ?_)
      · have h := h.1 c16
        refine jt_0 hX hK dX7_writing_25 0 rfl dX7_writing_26 q1484 29 rfl rfl ?_
        refine jj_sipush hX dX7_writing_29 cs_16507 32 rfl ?_
        refine jj_iload_n hX dX7_writing_32 1 rfl 33 rfl ?_
        refine jw_1 hX hK hD 16507 kc_16507 vi_1_16507 dX7_writing_33 34 rfl (fun u33 e33 => ?_)
        have h := h u33 e33
        refine jj_iconst hX dX7_writing_34 ci_0 35 rfl ?_
        refine jj_istore_n (lv2 := [(0, .ref (ad 0)), (1, .int x1), (2, .int (0 : Int32))]) hX dX7_writing_35 (Nat.le_of_ble_eq_true rfl) [1, 2, 0] rfl 36 rfl ?_
        obtain ⟨n9, h⟩ := h
        exact tmw_writing_L36 hX hK hD n9 _ _ h
      · have h := h.2 c16
        refine jj_aload_n hX dX7_writing_19 0 rfl 20 rfl ?_
        refine jj_iconst hX dX7_writing_20 ci_1 21 rfl ?_
        refine kmw_refuse hX hK hD q1702 (Nat.le_of_ble_eq_true rfl) (Nat.le_of_ble_eq_true rfl) (Nat.zero_le _) (Nat.zero_le _) (Nat.le_of_ble_eq_true rfl) dX7_writing_21 24 rfl h (fun r21 u21 h => ?_)
        exact jj_reti (post := Post) (u := u21) hX dX7_writing_24 (Nat.le_refl 0) (Nat.le_refl 0) jm_hB h
theorem hd_mw_writing : yX7_writing.cls = RX7 ∧ yX7_writing.cls ≠ "java/lang/invoke/MethodHandle" ∧ yX7_writing.cls ≠ "java/lang/invoke/VarHandle" ∧ (parseMethodDescriptor yX7_writing.desc).map (fun d => d.parameters.length) = some 1 := by decide +kernel
theorem kmw_writing {X : JC} {Q : State → Prop} {nL k n pc : Nat} {lv : List (Nat × Value)} {st : List Value} {own : String} {cc : ByteArray} {ret : Option FieldType} {F LL mc ms ix : Nat} {D : va_G} {dA ad : Nat → Nat} {x1 : Int32} {u : MS} {Post : Int32 → MS → Prop} (hX : JX X own cc nL ret F LL mc ms) (hK : KM D dA (jj_s X)) (hD : MD ad) (hlk : (Cond.methodLink own ix yX7_writing) ∈ lw_all) (hF : 6 + 1 ≤ F) (hL : 8 + (3 + 11) + 141 ≤ LL) (hk : k ≤ mc) (hk2 : n ≤ ms) (hw : (st.map fun v => v.category).sum ≤ 8) (d : decode cc pc = .ok (.invokevirtual ix, 3)) (q : Nat) (hq : pc + 3 = q) (h : mw_writing x1 u Post) (kk : ∀ (r : Int32) (u2 : MS), Post r u2 → JJ X (AM ad) Q nL (MW D dA ad u2) k n q lv (.int r :: st)) : JJ X (AM ad) Q nL (MW D dA ad u) k n pc lv (.int x1 :: .ref (ad 0) :: st) :=
  jm_calli (na := 1) (As := [.int x1]) hX hK (mmw_writing (jj_l X) D dA ad hD x1 u Post h) hlk q1757 q1758 q129 q1759 hd_mw_writing rfl rfl hw hF hL hk hk2 d q hq kk
def mw_told_B44 (Post : Int32 → MS → Prop) (x1 : Int32) (u : MS) : Prop :=
  vp_in x1 19800 ∧
  mw_gives (jm_i u 1 x1.toNatClampNeg) u (fun r51 u51 =>
    Post r51 u51)
/-- RaisedPressModel.told(I)I -/
def mw_told (x1 : Int32) (u : MS) (Post : Int32 → MS → Prop) : Prop :=
  (x1 < 0 →
    mw_refuse (1 : Int32) u (fun r12 u12 =>
      Post r12 u12)) ∧
  (¬ x1 < 0 →
    (x1 ≤ (6 : Int32) →
      (x1 < (1 : Int32) →
        mw_told_B44 Post x1 u) ∧
      (¬ x1 < (1 : Int32) →
        ((3 : Int32) < x1 →
          mw_told_B44 Post x1 u) ∧
        (¬ (3 : Int32) < x1 →
          vp_in x1 19800 ∧
          (¬ (jm_i u 1 x1.toNatClampNeg) = 0 →
            mw_told_B44 Post x1 u) ∧
          ((jm_i u 1 x1.toNatClampNeg) = 0 →
            mw_refuse (6 : Int32) u (fun r38 u38 =>
              Post r38 u38))))) ∧
    (¬ x1 ≤ (6 : Int32) →
      mw_refuse (1 : Int32) u (fun r12 u12 =>
        Post r12 u12)))
set_option maxHeartbeats 4000000 in
set_option maxRecDepth 100000 in
theorem tmw_told_B44 {X : JC} {D : va_G} {dA ad : Nat → Nat} {Post : Int32 → MS → Prop} {x1 : Int32} {u : MS} (hX : JX X yX7_told.cls cX7_told 2 (Option.some Jvm.ClassFile.FieldType.int) 1 21 0 0) (hK : KM D dA (jj_s X)) (hD : MD ad) (h : mw_told_B44 Post x1  u) : JJ X (AM ad) (jj_Q X (va_Qi Post (jm_B D dA ad) (AM ad)) 0 0 (AM ad)) 2 (MW D dA ad u) 0 0 44 [(0, .ref (ad 0)), (1, .int x1)] [] := by
  unfold mw_told_B44 at h
  refine jj_aload_n hX dX7_told_44 0 rfl 45 rfl ?_
  refine jt_0 hX hK dX7_told_45 0 rfl dX7_told_46 q1484 49 rfl rfl ?_
  refine jj_iload_n hX dX7_told_49 1 rfl 50 rfl ?_
  obtain ⟨hi50, h⟩ := h
  refine jr_1 hX hK _ rfl hi50 dX7_told_50 51 rfl ?_
  refine kmw_gives hX hK hD q1752 (Nat.le_of_ble_eq_true rfl) (Nat.le_of_ble_eq_true rfl) (Nat.zero_le _) (Nat.zero_le _) (Nat.le_of_ble_eq_true rfl) dX7_told_51 54 rfl h (fun r51 u51 h => ?_)
  exact jj_reti (post := Post) (u := u51) hX dX7_told_54 (Nat.le_refl 0) (Nat.le_refl 0) jm_hB h
set_option maxHeartbeats 4000000 in
set_option maxRecDepth 100000 in
theorem mmw_told (l : Launch) (D : va_G) (dA ad : Nat → Nat) (hD : MD ad) (x1 : Int32) (u : MS) (Post : Int32 → MS → Prop) (h : mw_told x1 u Post) : Met l yX7_told (ws_ yX7_told cX7_told 2 (Option.some Jvm.ClassFile.FieldType.int)) (jm_rm 1 21) (jm_Pc D dA ad u [.int x1]) (va_Qi Post (jm_B D dA ad) (AM ad)) 0 0 (AM ad) := by
  refine jm_start [.int x1] [(0, .ref (ad 0)), (1, .int x1)] (by decide) (Nat.le_of_ble_eq_true rfl) rfl (fun X hX hK => ?_)
  unfold mw_told at h
  refine jj_iload_n hX dX7_told_0 1 rfl 1 rfl ?_
  refine jj_if_lt hX dX7_told_1 10 4 (by decide) rfl (fun c1 => ?_) (fun c1 => ?_)
  · have h := h.1 c1
    refine jj_aload_n hX dX7_told_10 0 rfl 11 rfl ?_
    refine jj_iconst hX dX7_told_11 ci_1 12 rfl ?_
    refine kmw_refuse hX hK hD q1702 (Nat.le_of_ble_eq_true rfl) (Nat.le_of_ble_eq_true rfl) (Nat.zero_le _) (Nat.zero_le _) (Nat.le_of_ble_eq_true rfl) dX7_told_12 15 rfl h (fun r12 u12 h => ?_)
    exact jj_reti (post := Post) (u := u12) hX dX7_told_15 (Nat.le_refl 0) (Nat.le_refl 0) jm_hB h
  · have h := h.2 c1
    refine jj_iload_n hX dX7_told_4 1 rfl 5 rfl ?_
    refine jj_bipush hX dX7_told_5 cb_6 7 rfl ?_
    refine jj_icmp_le hX dX7_told_7 16 10 (by decide) rfl (fun c7 => ?_) (fun c7 => ?_)
    · have h := h.1 c7
      refine jj_iload_n hX dX7_told_16 1 rfl 17 rfl ?_
      refine jj_iconst hX dX7_told_17 ci_1 18 rfl ?_
      refine jj_icmp_lt hX dX7_told_18 44 21 (by decide) rfl (fun c18 => ?_) (fun c18 => ?_)
      · have h := h.1 c18
        exact tmw_told_B44 hX hK hD h
      · have h := h.2 c18
        refine jj_iload_n hX dX7_told_21 1 rfl 22 rfl ?_
        refine jj_iconst hX dX7_told_22 ci_3 23 rfl ?_
        refine jj_icmp_gt hX dX7_told_23 44 26 (by decide) rfl (fun c23 => ?_) (fun c23 => ?_)
        · have h := h.1 c23
          exact tmw_told_B44 hX hK hD h
        · have h := h.2 c23
          refine jt_0 hX hK dX7_told_26 0 rfl dX7_told_27 q1484 30 rfl rfl ?_
          refine jj_iload_n hX dX7_told_30 1 rfl 31 rfl ?_
          obtain ⟨hi31, h⟩ := h
          refine jr_1 hX hK _ rfl hi31 dX7_told_31 32 rfl ?_
          refine jj_if_ne hX dX7_told_32 44 35 (by decide) rfl (fun c32 => ?_) (fun c32 => ?_)
          · have h := h.1 c32
            exact tmw_told_B44 hX hK hD h
          · have h := h.2 c32
            refine jj_aload_n hX dX7_told_35 0 rfl 36 rfl ?_
            refine jj_bipush hX dX7_told_36 cb_6 38 rfl ?_
            refine kmw_refuse hX hK hD q1702 (Nat.le_of_ble_eq_true rfl) (Nat.le_of_ble_eq_true rfl) (Nat.zero_le _) (Nat.zero_le _) (Nat.le_of_ble_eq_true rfl) dX7_told_38 41 rfl h (fun r38 u38 h => ?_)
            refine jj_goto hX dX7_told_41 54 (by decide) ?_
            exact jj_reti (post := Post) (u := u38) hX dX7_told_54 (Nat.le_refl 0) (Nat.le_refl 0) jm_hB h
    · have h := h.2 c7
      refine jj_aload_n hX dX7_told_10 0 rfl 11 rfl ?_
      refine jj_iconst hX dX7_told_11 ci_1 12 rfl ?_
      refine kmw_refuse hX hK hD q1702 (Nat.le_of_ble_eq_true rfl) (Nat.le_of_ble_eq_true rfl) (Nat.zero_le _) (Nat.zero_le _) (Nat.le_of_ble_eq_true rfl) dX7_told_12 15 rfl h (fun r12 u12 h => ?_)
      exact jj_reti (post := Post) (u := u12) hX dX7_told_15 (Nat.le_refl 0) (Nat.le_refl 0) jm_hB h
theorem hd_mw_told : yX7_told.cls = RX7 ∧ yX7_told.cls ≠ "java/lang/invoke/MethodHandle" ∧ yX7_told.cls ≠ "java/lang/invoke/VarHandle" ∧ (parseMethodDescriptor yX7_told.desc).map (fun d => d.parameters.length) = some 1 := by decide +kernel
theorem kmw_told {X : JC} {Q : State → Prop} {nL k n pc : Nat} {lv : List (Nat × Value)} {st : List Value} {own : String} {cc : ByteArray} {ret : Option FieldType} {F LL mc ms ix : Nat} {D : va_G} {dA ad : Nat → Nat} {x1 : Int32} {u : MS} {Post : Int32 → MS → Prop} (hX : JX X own cc nL ret F LL mc ms) (hK : KM D dA (jj_s X)) (hD : MD ad) (hlk : (Cond.methodLink own ix yX7_told) ∈ lw_all) (hF : 1 + 1 ≤ F) (hL : 8 + (2 + 11) + 21 ≤ LL) (hk : k ≤ mc) (hk2 : n ≤ ms) (hw : (st.map fun v => v.category).sum ≤ 8) (d : decode cc pc = .ok (.invokevirtual ix, 3)) (q : Nat) (hq : pc + 3 = q) (h : mw_told x1 u Post) (kk : ∀ (r : Int32) (u2 : MS), Post r u2 → JJ X (AM ad) Q nL (MW D dA ad u2) k n q lv (.int r :: st)) : JJ X (AM ad) Q nL (MW D dA ad u) k n pc lv (.int x1 :: .ref (ad 0) :: st) :=
  jm_calli (na := 1) (As := [.int x1]) hX hK (mmw_told (jj_l X) D dA ad hD x1 u Post h) hlk q1829 q1830 q129 q1831 hd_mw_told rfl rfl hw hF hL hk hk2 d q hq kk
/-- RaisedPressModel.isRule(I)Z -/
def mw_isRule (x1 : Int32) (u : MS) (Post : Int32 → MS → Prop) : Prop :=
  (x1 < 0 →
    Post (0 : Int32) u) ∧
  (¬ x1 < 0 →
    ((jm_i u 1 0) ≤ x1 →
      Post (0 : Int32) u) ∧
    (¬ (jm_i u 1 0) ≤ x1 →
      Post (1 : Int32) u))
set_option maxHeartbeats 4000000 in
set_option maxRecDepth 100000 in
theorem mmw_isRule (l : Launch) (D : va_G) (dA ad : Nat → Nat) (hD : MD ad) (x1 : Int32) (u : MS) (Post : Int32 → MS → Prop) (h : mw_isRule x1 u Post) : Met l yX7_isRule (ws_ yX7_isRule cX7_isRule 2 (Option.some Jvm.ClassFile.FieldType.boolean)) (jm_rm 0 0) (jm_Pc D dA ad u [.int x1]) (va_Qi (fun r u => Post r u ∧ jj_z r) (jm_B D dA ad) (AM ad)) 0 0 (AM ad) := by
  refine jm_start [.int x1] [(0, .ref (ad 0)), (1, .int x1)] (by decide) (Nat.le_of_ble_eq_true rfl) rfl (fun X hX hK => ?_)
  unfold mw_isRule at h
  refine jj_iload_n hX dX7_isRule_0 1 rfl 1 rfl ?_
  refine jj_if_lt hX dX7_isRule_1 18 4 (by decide) rfl (fun c1 => ?_) (fun c1 => ?_)
  · have h := h.1 c1
    refine jj_iconst hX dX7_isRule_18 ci_0 19 rfl ?_
    exact jj_retz (post := Post) (u := u) hX dX7_isRule_19 (Nat.le_refl 0) (Nat.le_refl 0) jm_hB jj_z0 h
  · have h := h.2 c1
    refine jj_iload_n hX dX7_isRule_4 1 rfl 5 rfl ?_
    refine jt_0 hX hK dX7_isRule_5 0 rfl dX7_isRule_6 q1484 9 rfl rfl ?_
    refine jj_iconst hX dX7_isRule_9 ci_0 10 rfl ?_
    refine jr_1 hX hK 0 kc_0 vi_1_0 dX7_isRule_10 11 rfl ?_
    refine jj_icmp_ge hX dX7_isRule_11 18 14 (by decide) rfl (fun c11 => ?_) (fun c11 => ?_)
    · have h := h.1 c11
      refine jj_iconst hX dX7_isRule_18 ci_0 19 rfl ?_
      exact jj_retz (post := Post) (u := u) hX dX7_isRule_19 (Nat.le_refl 0) (Nat.le_refl 0) jm_hB jj_z0 h
    · have h := h.2 c11
      refine jj_iconst hX dX7_isRule_14 ci_1 15 rfl ?_
      refine jj_goto hX dX7_isRule_15 19 (by decide) ?_
      exact jj_retz (post := Post) (u := u) hX dX7_isRule_19 (Nat.le_refl 0) (Nat.le_refl 0) jm_hB jj_z1 h
theorem hd_mw_isRule : yX7_isRule.cls = RX7 ∧ yX7_isRule.cls ≠ "java/lang/invoke/MethodHandle" ∧ yX7_isRule.cls ≠ "java/lang/invoke/VarHandle" ∧ (parseMethodDescriptor yX7_isRule.desc).map (fun d => d.parameters.length) = some 1 := by decide +kernel
theorem kmw_isRule {X : JC} {Q : State → Prop} {nL k n pc : Nat} {lv : List (Nat × Value)} {st : List Value} {own : String} {cc : ByteArray} {ret : Option FieldType} {F LL mc ms ix : Nat} {D : va_G} {dA ad : Nat → Nat} {x1 : Int32} {u : MS} {Post : Int32 → MS → Prop} (hX : JX X own cc nL ret F LL mc ms) (hK : KM D dA (jj_s X)) (hD : MD ad) (hlk : (Cond.methodLink own ix yX7_isRule) ∈ lw_all) (hF : 0 + 1 ≤ F) (hL : 8 + (2 + 11) + 0 ≤ LL) (hk : k ≤ mc) (hk2 : n ≤ ms) (hw : (st.map fun v => v.category).sum ≤ 8) (d : decode cc pc = .ok (.invokevirtual ix, 3)) (q : Nat) (hq : pc + 3 = q) (h : mw_isRule x1 u Post) (kk : ∀ (r : Int32) (u2 : MS), jj_z r → Post r u2 → JJ X (AM ad) Q nL (MW D dA ad u2) k n q lv (.int r :: st)) : JJ X (AM ad) Q nL (MW D dA ad u) k n pc lv (.int x1 :: .ref (ad 0) :: st) :=
  jm_callz (na := 1) (As := [.int x1]) hX hK (mmw_isRule (jj_l X) D dA ad hD x1 u Post h) hlk q1838 qs88 q129 q1839 hd_mw_isRule rfl rfl hw hF hL hk hk2 d q hq kk
/-- RaisedPressModel.rule(II)I -/
def mw_rule (x1 : Int32) (x2 : Int32) (u : MS) (Post : Int32 → MS → Prop) : Prop :=
  mw_isRule x1 u (fun r2 u2 =>
    (r2 = 0 →
      mw_refuse (1 : Int32) u2 (fun r19 u19 =>
        Post r19 u19)) ∧
    (¬ r2 = 0 →
      (x2 < 0 →
        mw_refuse (1 : Int32) u2 (fun r19 u19 =>
          Post r19 u19)) ∧
      (¬ x2 < 0 →
        (x2 ≤ (2 : Int32) →
          mw_ruleAt (0 : Int32) x1 (fun r30 =>
            (¬ x2 = 0 →
              (¬ x2 = (1 : Int32) →
                vp_in (r30 + (11 : Int32)) 19800 ∧
                mw_gives (jm_i u2 1 (r30 + (11 : Int32)).toNatClampNeg) u2 (fun r55 u55 =>
                  Post r55 u55)) ∧
              (x2 = (1 : Int32) →
                vp_in (r30 + (7 : Int32)) 19800 ∧
                mw_gives (jm_i u2 1 (r30 + (7 : Int32)).toNatClampNeg) u2 (fun r55 u55 =>
                  Post r55 u55))) ∧
            (x2 = 0 →
              vp_in (r30 + (0 : Int32)) 19800 ∧
              mw_gives (jm_i u2 1 (r30 + (0 : Int32)).toNatClampNeg) u2 (fun r55 u55 =>
                Post r55 u55)))) ∧
        (¬ x2 ≤ (2 : Int32) →
          mw_refuse (1 : Int32) u2 (fun r19 u19 =>
            Post r19 u19)))))
set_option maxHeartbeats 4000000 in
set_option maxRecDepth 100000 in
theorem mmw_rule (l : Launch) (D : va_G) (dA ad : Nat → Nat) (hD : MD ad) (x1 : Int32) (x2 : Int32) (u : MS) (Post : Int32 → MS → Prop) (h : mw_rule x1 x2 u Post) : Met l yX7_rule (ws_ yX7_rule cX7_rule 3 (Option.some Jvm.ClassFile.FieldType.int)) (jm_rm 1 21) (jm_Pc D dA ad u [.int x1, .int x2]) (va_Qi Post (jm_B D dA ad) (AM ad)) 0 0 (AM ad) := by
  refine jm_start [.int x1, .int x2] [(0, .ref (ad 0)), (1, .int x1), (2, .int x2)] (by decide) (Nat.le_of_ble_eq_true rfl) rfl (fun X hX hK => ?_)
  unfold mw_rule at h
  refine jj_aload_n hX dX7_rule_0 0 rfl 1 rfl ?_
  refine jj_iload_n hX dX7_rule_1 1 rfl 2 rfl ?_
  refine kmw_isRule hX hK hD q1836 (Nat.le_of_ble_eq_true rfl) (Nat.le_of_ble_eq_true rfl) (Nat.zero_le _) (Nat.zero_le _) (Nat.le_of_ble_eq_true rfl) dX7_rule_2 5 rfl h (fun r2 u2 hb2 h => ?_)
  refine jj_if_eq hX dX7_rule_5 17 8 (by decide) rfl (fun c5 => ?_) (fun c5 => ?_)
  · have h := h.1 c5
    refine jj_aload_n hX dX7_rule_17 0 rfl 18 rfl ?_
    refine jj_iconst hX dX7_rule_18 ci_1 19 rfl ?_
    refine kmw_refuse hX hK hD q1702 (Nat.le_of_ble_eq_true rfl) (Nat.le_of_ble_eq_true rfl) (Nat.zero_le _) (Nat.zero_le _) (Nat.le_of_ble_eq_true rfl) dX7_rule_19 22 rfl h (fun r19 u19 h => ?_)
    exact jj_reti (post := Post) (u := u19) hX dX7_rule_22 (Nat.le_refl 0) (Nat.le_refl 0) jm_hB h
  · have h := h.2 c5
    refine jj_iload_n hX dX7_rule_8 2 rfl 9 rfl ?_
    refine jj_if_lt hX dX7_rule_9 17 12 (by decide) rfl (fun c9 => ?_) (fun c9 => ?_)
    · have h := h.1 c9
      refine jj_aload_n hX dX7_rule_17 0 rfl 18 rfl ?_
      refine jj_iconst hX dX7_rule_18 ci_1 19 rfl ?_
      refine kmw_refuse hX hK hD q1702 (Nat.le_of_ble_eq_true rfl) (Nat.le_of_ble_eq_true rfl) (Nat.zero_le _) (Nat.zero_le _) (Nat.le_of_ble_eq_true rfl) dX7_rule_19 22 rfl h (fun r19 u19 h => ?_)
      exact jj_reti (post := Post) (u := u19) hX dX7_rule_22 (Nat.le_refl 0) (Nat.le_refl 0) jm_hB h
    · have h := h.2 c9
      refine jj_iload_n hX dX7_rule_12 2 rfl 13 rfl ?_
      refine jj_iconst hX dX7_rule_13 ci_2 14 rfl ?_
      refine jj_icmp_le hX dX7_rule_14 23 17 (by decide) rfl (fun c14 => ?_) (fun c14 => ?_)
      · have h := h.1 c14
        refine jj_aload_n hX dX7_rule_23 0 rfl 24 rfl ?_
        refine jt_0 hX hK dX7_rule_24 0 rfl dX7_rule_25 q1484 28 rfl rfl ?_
        refine jj_iconst hX dX7_rule_28 ci_0 29 rfl ?_
        refine jj_iload_n hX dX7_rule_29 1 rfl 30 rfl ?_
        refine kmw_ruleAt hX MW.keeps q1721 (Nat.le_of_ble_eq_true rfl) (Nat.le_of_ble_eq_true rfl) (Nat.zero_le _) (Nat.zero_le _) (Nat.le_of_ble_eq_true rfl) dX7_rule_30 33 rfl h (fun r30 h => ?_)
        refine jj_iload_n hX dX7_rule_33 2 rfl 34 rfl ?_
        refine jj_if_ne hX dX7_rule_34 41 37 (by decide) rfl (fun c34 => ?_) (fun c34 => ?_)
        · have h := h.1 c34
          refine jj_iload_n hX dX7_rule_41 2 rfl 42 rfl ?_
          refine jj_iconst hX dX7_rule_42 ci_1 43 rfl ?_
          refine jj_icmp_ne hX dX7_rule_43 51 46 (by decide) rfl (fun c43 => ?_) (fun c43 => ?_)
          · have h := h.1 c43
            refine jj_bipush hX dX7_rule_51 cb_11 53 rfl ?_
            refine jj_iadd hX dX7_rule_53 54 rfl ?_
            obtain ⟨hi54, h⟩ := h
            refine jr_1 hX hK _ rfl hi54 dX7_rule_54 55 rfl ?_
            refine kmw_gives hX hK hD q1752 (Nat.le_of_ble_eq_true rfl) (Nat.le_of_ble_eq_true rfl) (Nat.zero_le _) (Nat.zero_le _) (Nat.le_of_ble_eq_true rfl) dX7_rule_55 58 rfl h (fun r55 u55 h => ?_)
            exact jj_reti (post := Post) (u := u55) hX dX7_rule_58 (Nat.le_refl 0) (Nat.le_refl 0) jm_hB h
          · have h := h.2 c43
            refine jj_bipush hX dX7_rule_46 cb_7 48 rfl ?_
            refine jj_goto hX dX7_rule_48 53 (by decide) ?_
            refine jj_iadd hX dX7_rule_53 54 rfl ?_
            obtain ⟨hi54, h⟩ := h
            refine jr_1 hX hK _ rfl hi54 dX7_rule_54 55 rfl ?_
            refine kmw_gives hX hK hD q1752 (Nat.le_of_ble_eq_true rfl) (Nat.le_of_ble_eq_true rfl) (Nat.zero_le _) (Nat.zero_le _) (Nat.le_of_ble_eq_true rfl) dX7_rule_55 58 rfl h (fun r55 u55 h => ?_)
            exact jj_reti (post := Post) (u := u55) hX dX7_rule_58 (Nat.le_refl 0) (Nat.le_refl 0) jm_hB h
        · have h := h.2 c34
          refine jj_iconst hX dX7_rule_37 ci_0 38 rfl ?_
          refine jj_goto hX dX7_rule_38 53 (by decide) ?_
          refine jj_iadd hX dX7_rule_53 54 rfl ?_
          obtain ⟨hi54, h⟩ := h
          refine jr_1 hX hK _ rfl hi54 dX7_rule_54 55 rfl ?_
          refine kmw_gives hX hK hD q1752 (Nat.le_of_ble_eq_true rfl) (Nat.le_of_ble_eq_true rfl) (Nat.zero_le _) (Nat.zero_le _) (Nat.le_of_ble_eq_true rfl) dX7_rule_55 58 rfl h (fun r55 u55 h => ?_)
          exact jj_reti (post := Post) (u := u55) hX dX7_rule_58 (Nat.le_refl 0) (Nat.le_refl 0) jm_hB h
      · have h := h.2 c14
        refine jj_aload_n hX dX7_rule_17 0 rfl 18 rfl ?_
        refine jj_iconst hX dX7_rule_18 ci_1 19 rfl ?_
        refine kmw_refuse hX hK hD q1702 (Nat.le_of_ble_eq_true rfl) (Nat.le_of_ble_eq_true rfl) (Nat.zero_le _) (Nat.zero_le _) (Nat.le_of_ble_eq_true rfl) dX7_rule_19 22 rfl h (fun r19 u19 h => ?_)
        exact jj_reti (post := Post) (u := u19) hX dX7_rule_22 (Nat.le_refl 0) (Nat.le_refl 0) jm_hB h
theorem hd_mw_rule : yX7_rule.cls = RX7 ∧ yX7_rule.cls ≠ "java/lang/invoke/MethodHandle" ∧ yX7_rule.cls ≠ "java/lang/invoke/VarHandle" ∧ (parseMethodDescriptor yX7_rule.desc).map (fun d => d.parameters.length) = some 2 := by decide +kernel
theorem kmw_rule {X : JC} {Q : State → Prop} {nL k n pc : Nat} {lv : List (Nat × Value)} {st : List Value} {own : String} {cc : ByteArray} {ret : Option FieldType} {F LL mc ms ix : Nat} {D : va_G} {dA ad : Nat → Nat} {x1 : Int32} {x2 : Int32} {u : MS} {Post : Int32 → MS → Prop} (hX : JX X own cc nL ret F LL mc ms) (hK : KM D dA (jj_s X)) (hD : MD ad) (hlk : (Cond.methodLink own ix yX7_rule) ∈ lw_all) (hF : 1 + 1 ≤ F) (hL : 8 + (3 + 11) + 21 ≤ LL) (hk : k ≤ mc) (hk2 : n ≤ ms) (hw : (st.map fun v => v.category).sum ≤ 8) (d : decode cc pc = .ok (.invokevirtual ix, 3)) (q : Nat) (hq : pc + 3 = q) (h : mw_rule x1 x2 u Post) (kk : ∀ (r : Int32) (u2 : MS), Post r u2 → JJ X (AM ad) Q nL (MW D dA ad u2) k n q lv (.int r :: st)) : JJ X (AM ad) Q nL (MW D dA ad u) k n pc lv (.int x2 :: .int x1 :: .ref (ad 0) :: st) :=
  jm_calli (na := 2) (As := [.int x1, .int x2]) hX hK (mmw_rule (jj_l X) D dA ad hD x1 x2 u Post h) hlk q1833 q1834 q129 q1835 hd_mw_rule rfl rfl hw hF hL hk hk2 d q hq kk
/-- RaisedPressModel.letter(II)I -/
def mw_letter (x1 : Int32) (x2 : Int32) (u : MS) (Post : Int32 → MS → Prop) : Prop :=
  mw_isRule x1 u (fun r2 u2 =>
    (¬ r2 = 0 →
      (x2 < 0 →
        mw_refuse (6 : Int32) u2 (fun r35 u35 =>
          Post r35 u35)) ∧
      (¬ x2 < 0 →
        mw_ruleAt (0 : Int32) x1 (fun r25 =>
          vp_in r25 19800 ∧
          (x2 < (jm_i u2 1 r25.toNatClampNeg) →
            mw_ruleAt (0 : Int32) x1 (fun r48 =>
              vp_in ((r48 + (1 : Int32)) + x2) 19800 ∧
              mw_gives (jm_i u2 1 ((r48 + (1 : Int32)) + x2).toNatClampNeg) u2 (fun r56 u56 =>
                Post r56 u56))) ∧
          (¬ x2 < (jm_i u2 1 r25.toNatClampNeg) →
            mw_refuse (6 : Int32) u2 (fun r35 u35 =>
              Post r35 u35))))) ∧
    (r2 = 0 →
      mw_refuse (1 : Int32) u2 (fun r10 u10 =>
        Post r10 u10)))
set_option maxHeartbeats 4000000 in
set_option maxRecDepth 100000 in
theorem mmw_letter (l : Launch) (D : va_G) (dA ad : Nat → Nat) (hD : MD ad) (x1 : Int32) (x2 : Int32) (u : MS) (Post : Int32 → MS → Prop) (h : mw_letter x1 x2 u Post) : Met l yX7_letter (ws_ yX7_letter cX7_letter 3 (Option.some Jvm.ClassFile.FieldType.int)) (jm_rm 1 21) (jm_Pc D dA ad u [.int x1, .int x2]) (va_Qi Post (jm_B D dA ad) (AM ad)) 0 0 (AM ad) := by
  refine jm_start [.int x1, .int x2] [(0, .ref (ad 0)), (1, .int x1), (2, .int x2)] (by decide) (Nat.le_of_ble_eq_true rfl) rfl (fun X hX hK => ?_)
  unfold mw_letter at h
  refine jj_aload_n hX dX7_letter_0 0 rfl 1 rfl ?_
  refine jj_iload_n hX dX7_letter_1 1 rfl 2 rfl ?_
  refine kmw_isRule hX hK hD q1836 (Nat.le_of_ble_eq_true rfl) (Nat.le_of_ble_eq_true rfl) (Nat.zero_le _) (Nat.zero_le _) (Nat.le_of_ble_eq_true rfl) dX7_letter_2 5 rfl h (fun r2 u2 hb2 h => ?_)
  refine jj_if_ne hX dX7_letter_5 14 8 (by decide) rfl (fun c5 => ?_) (fun c5 => ?_)
  · have h := h.1 c5
    refine jj_iload_n hX dX7_letter_14 2 rfl 15 rfl ?_
    refine jj_if_lt hX dX7_letter_15 32 18 (by decide) rfl (fun c15 => ?_) (fun c15 => ?_)
    · have h := h.1 c15
      refine jj_aload_n hX dX7_letter_32 0 rfl 33 rfl ?_
      refine jj_bipush hX dX7_letter_33 cb_6 35 rfl ?_
      refine kmw_refuse hX hK hD q1702 (Nat.le_of_ble_eq_true rfl) (Nat.le_of_ble_eq_true rfl) (Nat.zero_le _) (Nat.zero_le _) (Nat.le_of_ble_eq_true rfl) dX7_letter_35 38 rfl h (fun r35 u35 h => ?_)
      refine jj_goto hX dX7_letter_38 59 (by decide) ?_
      exact jj_reti (post := Post) (u := u35) hX dX7_letter_59 (Nat.le_refl 0) (Nat.le_refl 0) jm_hB h
    · have h := h.2 c15
      refine jj_iload_n hX dX7_letter_18 2 rfl 19 rfl ?_
      refine jt_0 hX hK dX7_letter_19 0 rfl dX7_letter_20 q1484 23 rfl rfl ?_
      refine jj_iconst hX dX7_letter_23 ci_0 24 rfl ?_
      refine jj_iload_n hX dX7_letter_24 1 rfl 25 rfl ?_
      refine kmw_ruleAt hX MW.keeps q1721 (Nat.le_of_ble_eq_true rfl) (Nat.le_of_ble_eq_true rfl) (Nat.zero_le _) (Nat.zero_le _) (Nat.le_of_ble_eq_true rfl) dX7_letter_25 28 rfl h (fun r25 h => ?_)
      obtain ⟨hi28, h⟩ := h
      refine jr_1 hX hK _ rfl hi28 dX7_letter_28 29 rfl ?_
      refine jj_icmp_lt hX dX7_letter_29 41 32 (by decide) rfl (fun c29 => ?_) (fun c29 => ?_)
      · have h := h.1 c29
        refine jj_aload_n hX dX7_letter_41 0 rfl 42 rfl ?_
        refine jt_0 hX hK dX7_letter_42 0 rfl dX7_letter_43 q1484 46 rfl rfl ?_
        refine jj_iconst hX dX7_letter_46 ci_0 47 rfl ?_
        refine jj_iload_n hX dX7_letter_47 1 rfl 48 rfl ?_
        refine kmw_ruleAt hX MW.keeps q1721 (Nat.le_of_ble_eq_true rfl) (Nat.le_of_ble_eq_true rfl) (Nat.zero_le _) (Nat.zero_le _) (Nat.le_of_ble_eq_true rfl) dX7_letter_48 51 rfl h (fun r48 h => ?_)
        refine jj_iconst hX dX7_letter_51 ci_1 52 rfl ?_
        refine jj_iadd hX dX7_letter_52 53 rfl ?_
        refine jj_iload_n hX dX7_letter_53 2 rfl 54 rfl ?_
        refine jj_iadd hX dX7_letter_54 55 rfl ?_
        obtain ⟨hi55, h⟩ := h
        refine jr_1 hX hK _ rfl hi55 dX7_letter_55 56 rfl ?_
        refine kmw_gives hX hK hD q1752 (Nat.le_of_ble_eq_true rfl) (Nat.le_of_ble_eq_true rfl) (Nat.zero_le _) (Nat.zero_le _) (Nat.le_of_ble_eq_true rfl) dX7_letter_56 59 rfl h (fun r56 u56 h => ?_)
        exact jj_reti (post := Post) (u := u56) hX dX7_letter_59 (Nat.le_refl 0) (Nat.le_refl 0) jm_hB h
      · have h := h.2 c29
        refine jj_aload_n hX dX7_letter_32 0 rfl 33 rfl ?_
        refine jj_bipush hX dX7_letter_33 cb_6 35 rfl ?_
        refine kmw_refuse hX hK hD q1702 (Nat.le_of_ble_eq_true rfl) (Nat.le_of_ble_eq_true rfl) (Nat.zero_le _) (Nat.zero_le _) (Nat.le_of_ble_eq_true rfl) dX7_letter_35 38 rfl h (fun r35 u35 h => ?_)
        refine jj_goto hX dX7_letter_38 59 (by decide) ?_
        exact jj_reti (post := Post) (u := u35) hX dX7_letter_59 (Nat.le_refl 0) (Nat.le_refl 0) jm_hB h
  · have h := h.2 c5
    refine jj_aload_n hX dX7_letter_8 0 rfl 9 rfl ?_
    refine jj_iconst hX dX7_letter_9 ci_1 10 rfl ?_
    refine kmw_refuse hX hK hD q1702 (Nat.le_of_ble_eq_true rfl) (Nat.le_of_ble_eq_true rfl) (Nat.zero_le _) (Nat.zero_le _) (Nat.le_of_ble_eq_true rfl) dX7_letter_10 13 rfl h (fun r10 u10 h => ?_)
    exact jj_reti (post := Post) (u := u10) hX dX7_letter_13 (Nat.le_refl 0) (Nat.le_refl 0) jm_hB h
theorem hd_mw_letter : yX7_letter.cls = RX7 ∧ yX7_letter.cls ≠ "java/lang/invoke/MethodHandle" ∧ yX7_letter.cls ≠ "java/lang/invoke/VarHandle" ∧ (parseMethodDescriptor yX7_letter.desc).map (fun d => d.parameters.length) = some 2 := by decide +kernel
theorem kmw_letter {X : JC} {Q : State → Prop} {nL k n pc : Nat} {lv : List (Nat × Value)} {st : List Value} {own : String} {cc : ByteArray} {ret : Option FieldType} {F LL mc ms ix : Nat} {D : va_G} {dA ad : Nat → Nat} {x1 : Int32} {x2 : Int32} {u : MS} {Post : Int32 → MS → Prop} (hX : JX X own cc nL ret F LL mc ms) (hK : KM D dA (jj_s X)) (hD : MD ad) (hlk : (Cond.methodLink own ix yX7_letter) ∈ lw_all) (hF : 1 + 1 ≤ F) (hL : 8 + (3 + 11) + 21 ≤ LL) (hk : k ≤ mc) (hk2 : n ≤ ms) (hw : (st.map fun v => v.category).sum ≤ 8) (d : decode cc pc = .ok (.invokevirtual ix, 3)) (q : Nat) (hq : pc + 3 = q) (h : mw_letter x1 x2 u Post) (kk : ∀ (r : Int32) (u2 : MS), Post r u2 → JJ X (AM ad) Q nL (MW D dA ad u2) k n q lv (.int r :: st)) : JJ X (AM ad) Q nL (MW D dA ad u) k n pc lv (.int x2 :: .int x1 :: .ref (ad 0) :: st) :=
  jm_calli (na := 2) (As := [.int x1, .int x2]) hX hK (mmw_letter (jj_l X) D dA ad hD x1 x2 u Post h) hlk q1841 q1842 q129 q1843 hd_mw_letter rfl rfl hw hF hL hk hk2 d q hq kk
/-- RaisedPressModel.cellsOf(I)I -/
def mw_cellsOf (x1 : Int32) (u : MS) (Post : Int32 → MS → Prop) : Prop :=
  mw_ruleAt (0 : Int32) x1 (fun r6 =>
    vp_in (r6 + (7 : Int32)) 19800 ∧
    Post (jm_i u 1 (r6 + (7 : Int32)).toNatClampNeg) u)
set_option maxHeartbeats 4000000 in
set_option maxRecDepth 100000 in
theorem mmw_cellsOf (l : Launch) (D : va_G) (dA ad : Nat → Nat) (hD : MD ad) (x1 : Int32) (u : MS) (Post : Int32 → MS → Prop) (h : mw_cellsOf x1 u Post) : Met l yX7_cellsOf (ws_ yX7_cellsOf cX7_cellsOf 2 (Option.some Jvm.ClassFile.FieldType.int)) (jm_rm 1 21) (jm_Pc D dA ad u [.int x1]) (va_Qi Post (jm_B D dA ad) (AM ad)) 0 0 (AM ad) := by
  refine jm_start [.int x1] [(0, .ref (ad 0)), (1, .int x1)] (by decide) (Nat.le_of_ble_eq_true rfl) rfl (fun X hX hK => ?_)
  unfold mw_cellsOf at h
  refine jt_0 hX hK dX7_cellsOf_0 0 rfl dX7_cellsOf_1 q1484 4 rfl rfl ?_
  refine jj_iconst hX dX7_cellsOf_4 ci_0 5 rfl ?_
  refine jj_iload_n hX dX7_cellsOf_5 1 rfl 6 rfl ?_
  refine kmw_ruleAt hX MW.keeps q1721 (Nat.le_of_ble_eq_true rfl) (Nat.le_of_ble_eq_true rfl) (Nat.zero_le _) (Nat.zero_le _) (Nat.le_of_ble_eq_true rfl) dX7_cellsOf_6 9 rfl h (fun r6 h => ?_)
  refine jj_bipush hX dX7_cellsOf_9 cb_7 11 rfl ?_
  refine jj_iadd hX dX7_cellsOf_11 12 rfl ?_
  obtain ⟨hi12, h⟩ := h
  refine jr_1 hX hK _ rfl hi12 dX7_cellsOf_12 13 rfl ?_
  exact jj_reti (post := Post) (u := u) hX dX7_cellsOf_13 (Nat.le_refl 0) (Nat.le_refl 0) jm_hB h
theorem hd_mw_cellsOf : yX7_cellsOf.cls = RX7 ∧ yX7_cellsOf.cls ≠ "java/lang/invoke/MethodHandle" ∧ yX7_cellsOf.cls ≠ "java/lang/invoke/VarHandle" ∧ (parseMethodDescriptor yX7_cellsOf.desc).map (fun d => d.parameters.length) = some 1 := by decide +kernel
theorem kmw_cellsOf {X : JC} {Q : State → Prop} {nL k n pc : Nat} {lv : List (Nat × Value)} {st : List Value} {own : String} {cc : ByteArray} {ret : Option FieldType} {F LL mc ms ix : Nat} {D : va_G} {dA ad : Nat → Nat} {x1 : Int32} {u : MS} {Post : Int32 → MS → Prop} (hX : JX X own cc nL ret F LL mc ms) (hK : KM D dA (jj_s X)) (hD : MD ad) (hlk : (Cond.methodLink own ix yX7_cellsOf) ∈ lw_all) (hF : 1 + 1 ≤ F) (hL : 8 + (2 + 11) + 21 ≤ LL) (hk : k ≤ mc) (hk2 : n ≤ ms) (hw : (st.map fun v => v.category).sum ≤ 8) (d : decode cc pc = .ok (.invokevirtual ix, 3)) (q : Nat) (hq : pc + 3 = q) (h : mw_cellsOf x1 u Post) (kk : ∀ (r : Int32) (u2 : MS), Post r u2 → JJ X (AM ad) Q nL (MW D dA ad u2) k n q lv (.int r :: st)) : JJ X (AM ad) Q nL (MW D dA ad u) k n pc lv (.int x1 :: .ref (ad 0) :: st) :=
  jm_calli (na := 1) (As := [.int x1]) hX hK (mmw_cellsOf (jj_l X) D dA ad hD x1 u Post h) hlk q1850 qs89 q129 q1851 hd_mw_cellsOf rfl rfl hw hF hL hk hk2 d q hq kk
/-- RaisedPressModel.cellAt(II)I -/
def mw_cellAt (x1 : Int32) (x2 : Int32) (u : MS) (Post : Int32 → MS → Prop) : Prop :=
  mw_ruleAt (0 : Int32) x1 (fun r6 =>
    vp_in (((r6 + (7 : Int32)) + (1 : Int32)) + x2) 19800 ∧
    Post (jm_i u 1 (((r6 + (7 : Int32)) + (1 : Int32)) + x2).toNatClampNeg) u)
set_option maxHeartbeats 4000000 in
set_option maxRecDepth 100000 in
theorem mmw_cellAt (l : Launch) (D : va_G) (dA ad : Nat → Nat) (hD : MD ad) (x1 : Int32) (x2 : Int32) (u : MS) (Post : Int32 → MS → Prop) (h : mw_cellAt x1 x2 u Post) : Met l yX7_cellAt (ws_ yX7_cellAt cX7_cellAt 3 (Option.some Jvm.ClassFile.FieldType.int)) (jm_rm 1 21) (jm_Pc D dA ad u [.int x1, .int x2]) (va_Qi Post (jm_B D dA ad) (AM ad)) 0 0 (AM ad) := by
  refine jm_start [.int x1, .int x2] [(0, .ref (ad 0)), (1, .int x1), (2, .int x2)] (by decide) (Nat.le_of_ble_eq_true rfl) rfl (fun X hX hK => ?_)
  unfold mw_cellAt at h
  refine jt_0 hX hK dX7_cellAt_0 0 rfl dX7_cellAt_1 q1484 4 rfl rfl ?_
  refine jj_iconst hX dX7_cellAt_4 ci_0 5 rfl ?_
  refine jj_iload_n hX dX7_cellAt_5 1 rfl 6 rfl ?_
  refine kmw_ruleAt hX MW.keeps q1721 (Nat.le_of_ble_eq_true rfl) (Nat.le_of_ble_eq_true rfl) (Nat.zero_le _) (Nat.zero_le _) (Nat.le_of_ble_eq_true rfl) dX7_cellAt_6 9 rfl h (fun r6 h => ?_)
  refine jj_bipush hX dX7_cellAt_9 cb_7 11 rfl ?_
  refine jj_iadd hX dX7_cellAt_11 12 rfl ?_
  refine jj_iconst hX dX7_cellAt_12 ci_1 13 rfl ?_
  refine jj_iadd hX dX7_cellAt_13 14 rfl ?_
  refine jj_iload_n hX dX7_cellAt_14 2 rfl 15 rfl ?_
  refine jj_iadd hX dX7_cellAt_15 16 rfl ?_
  obtain ⟨hi16, h⟩ := h
  refine jr_1 hX hK _ rfl hi16 dX7_cellAt_16 17 rfl ?_
  exact jj_reti (post := Post) (u := u) hX dX7_cellAt_17 (Nat.le_refl 0) (Nat.le_refl 0) jm_hB h
theorem hd_mw_cellAt : yX7_cellAt.cls = RX7 ∧ yX7_cellAt.cls ≠ "java/lang/invoke/MethodHandle" ∧ yX7_cellAt.cls ≠ "java/lang/invoke/VarHandle" ∧ (parseMethodDescriptor yX7_cellAt.desc).map (fun d => d.parameters.length) = some 2 := by decide +kernel
theorem kmw_cellAt {X : JC} {Q : State → Prop} {nL k n pc : Nat} {lv : List (Nat × Value)} {st : List Value} {own : String} {cc : ByteArray} {ret : Option FieldType} {F LL mc ms ix : Nat} {D : va_G} {dA ad : Nat → Nat} {x1 : Int32} {x2 : Int32} {u : MS} {Post : Int32 → MS → Prop} (hX : JX X own cc nL ret F LL mc ms) (hK : KM D dA (jj_s X)) (hD : MD ad) (hlk : (Cond.methodLink own ix yX7_cellAt) ∈ lw_all) (hF : 1 + 1 ≤ F) (hL : 8 + (3 + 11) + 21 ≤ LL) (hk : k ≤ mc) (hk2 : n ≤ ms) (hw : (st.map fun v => v.category).sum ≤ 8) (d : decode cc pc = .ok (.invokevirtual ix, 3)) (q : Nat) (hq : pc + 3 = q) (h : mw_cellAt x1 x2 u Post) (kk : ∀ (r : Int32) (u2 : MS), Post r u2 → JJ X (AM ad) Q nL (MW D dA ad u2) k n q lv (.int r :: st)) : JJ X (AM ad) Q nL (MW D dA ad u) k n pc lv (.int x2 :: .int x1 :: .ref (ad 0) :: st) :=
  jm_calli (na := 2) (As := [.int x1, .int x2]) hX hK (mmw_cellAt (jj_l X) D dA ad hD x1 x2 u Post h) hlk q1854 qs90 q129 q1855 hd_mw_cellAt rfl rfl hw hF hL hk hk2 d q hq kk
/-- RaisedPressModel.cellOf(II)I -/
def mw_cellOf (x1 : Int32) (x2 : Int32) (u : MS) (Post : Int32 → MS → Prop) : Prop :=
  mw_isRule x1 u (fun r2 u2 =>
    (¬ r2 = 0 →
      (x2 < 0 →
        mw_refuse (6 : Int32) u2 (fun r30 u30 =>
          Post r30 u30)) ∧
      (¬ x2 < 0 →
        mw_cellsOf x1 u2 (fun r21 u21 =>
          (x2 < r21 →
            mw_cellAt x1 x2 u21 (fun r40 u40 =>
              mw_gives r40 u40 (fun r43 u43 =>
                Post r43 u43))) ∧
          (¬ x2 < r21 →
            mw_refuse (6 : Int32) u21 (fun r30 u30 =>
              Post r30 u30))))) ∧
    (r2 = 0 →
      mw_refuse (1 : Int32) u2 (fun r10 u10 =>
        Post r10 u10)))
set_option maxHeartbeats 4000000 in
set_option maxRecDepth 100000 in
theorem mmw_cellOf (l : Launch) (D : va_G) (dA ad : Nat → Nat) (hD : MD ad) (x1 : Int32) (x2 : Int32) (u : MS) (Post : Int32 → MS → Prop) (h : mw_cellOf x1 x2 u Post) : Met l yX7_cellOf (ws_ yX7_cellOf cX7_cellOf 3 (Option.some Jvm.ClassFile.FieldType.int)) (jm_rm 2 43) (jm_Pc D dA ad u [.int x1, .int x2]) (va_Qi Post (jm_B D dA ad) (AM ad)) 0 0 (AM ad) := by
  refine jm_start [.int x1, .int x2] [(0, .ref (ad 0)), (1, .int x1), (2, .int x2)] (by decide) (Nat.le_of_ble_eq_true rfl) rfl (fun X hX hK => ?_)
  unfold mw_cellOf at h
  refine jj_aload_n hX dX7_cellOf_0 0 rfl 1 rfl ?_
  refine jj_iload_n hX dX7_cellOf_1 1 rfl 2 rfl ?_
  refine kmw_isRule hX hK hD q1836 (Nat.le_of_ble_eq_true rfl) (Nat.le_of_ble_eq_true rfl) (Nat.zero_le _) (Nat.zero_le _) (Nat.le_of_ble_eq_true rfl) dX7_cellOf_2 5 rfl h (fun r2 u2 hb2 h => ?_)
  refine jj_if_ne hX dX7_cellOf_5 14 8 (by decide) rfl (fun c5 => ?_) (fun c5 => ?_)
  · have h := h.1 c5
    refine jj_iload_n hX dX7_cellOf_14 2 rfl 15 rfl ?_
    refine jj_if_lt hX dX7_cellOf_15 27 18 (by decide) rfl (fun c15 => ?_) (fun c15 => ?_)
    · have h := h.1 c15
      refine jj_aload_n hX dX7_cellOf_27 0 rfl 28 rfl ?_
      refine jj_bipush hX dX7_cellOf_28 cb_6 30 rfl ?_
      refine kmw_refuse hX hK hD q1702 (Nat.le_of_ble_eq_true rfl) (Nat.le_of_ble_eq_true rfl) (Nat.zero_le _) (Nat.zero_le _) (Nat.le_of_ble_eq_true rfl) dX7_cellOf_30 33 rfl h (fun r30 u30 h => ?_)
      refine jj_goto hX dX7_cellOf_33 46 (by decide) ?_
      exact jj_reti (post := Post) (u := u30) hX dX7_cellOf_46 (Nat.le_refl 0) (Nat.le_refl 0) jm_hB h
    · have h := h.2 c15
      refine jj_iload_n hX dX7_cellOf_18 2 rfl 19 rfl ?_
      refine jj_aload_n hX dX7_cellOf_19 0 rfl 20 rfl ?_
      refine jj_iload_n hX dX7_cellOf_20 1 rfl 21 rfl ?_
      refine kmw_cellsOf hX hK hD q1848 (Nat.le_of_ble_eq_true rfl) (Nat.le_of_ble_eq_true rfl) (Nat.zero_le _) (Nat.zero_le _) (Nat.le_of_ble_eq_true rfl) dX7_cellOf_21 24 rfl h (fun r21 u21 h => ?_)
      refine jj_icmp_lt hX dX7_cellOf_24 36 27 (by decide) rfl (fun c24 => ?_) (fun c24 => ?_)
      · have h := h.1 c24
        refine jj_aload_n hX dX7_cellOf_36 0 rfl 37 rfl ?_
        refine jj_aload_n hX dX7_cellOf_37 0 rfl 38 rfl ?_
        refine jj_iload_n hX dX7_cellOf_38 1 rfl 39 rfl ?_
        refine jj_iload_n hX dX7_cellOf_39 2 rfl 40 rfl ?_
        refine kmw_cellAt hX hK hD q1852 (Nat.le_of_ble_eq_true rfl) (Nat.le_of_ble_eq_true rfl) (Nat.zero_le _) (Nat.zero_le _) (Nat.le_of_ble_eq_true rfl) dX7_cellOf_40 43 rfl h (fun r40 u40 h => ?_)
        refine kmw_gives hX hK hD q1752 (Nat.le_of_ble_eq_true rfl) (Nat.le_of_ble_eq_true rfl) (Nat.zero_le _) (Nat.zero_le _) (Nat.le_of_ble_eq_true rfl) dX7_cellOf_43 46 rfl h (fun r43 u43 h => ?_)
        exact jj_reti (post := Post) (u := u43) hX dX7_cellOf_46 (Nat.le_refl 0) (Nat.le_refl 0) jm_hB h
      · have h := h.2 c24
        refine jj_aload_n hX dX7_cellOf_27 0 rfl 28 rfl ?_
        refine jj_bipush hX dX7_cellOf_28 cb_6 30 rfl ?_
        refine kmw_refuse hX hK hD q1702 (Nat.le_of_ble_eq_true rfl) (Nat.le_of_ble_eq_true rfl) (Nat.zero_le _) (Nat.zero_le _) (Nat.le_of_ble_eq_true rfl) dX7_cellOf_30 33 rfl h (fun r30 u30 h => ?_)
        refine jj_goto hX dX7_cellOf_33 46 (by decide) ?_
        exact jj_reti (post := Post) (u := u30) hX dX7_cellOf_46 (Nat.le_refl 0) (Nat.le_refl 0) jm_hB h
  · have h := h.2 c5
    refine jj_aload_n hX dX7_cellOf_8 0 rfl 9 rfl ?_
    refine jj_iconst hX dX7_cellOf_9 ci_1 10 rfl ?_
    refine kmw_refuse hX hK hD q1702 (Nat.le_of_ble_eq_true rfl) (Nat.le_of_ble_eq_true rfl) (Nat.zero_le _) (Nat.zero_le _) (Nat.le_of_ble_eq_true rfl) dX7_cellOf_10 13 rfl h (fun r10 u10 h => ?_)
    exact jj_reti (post := Post) (u := u10) hX dX7_cellOf_13 (Nat.le_refl 0) (Nat.le_refl 0) jm_hB h
theorem hd_mw_cellOf : yX7_cellOf.cls = RX7 ∧ yX7_cellOf.cls ≠ "java/lang/invoke/MethodHandle" ∧ yX7_cellOf.cls ≠ "java/lang/invoke/VarHandle" ∧ (parseMethodDescriptor yX7_cellOf.desc).map (fun d => d.parameters.length) = some 2 := by decide +kernel
theorem kmw_cellOf {X : JC} {Q : State → Prop} {nL k n pc : Nat} {lv : List (Nat × Value)} {st : List Value} {own : String} {cc : ByteArray} {ret : Option FieldType} {F LL mc ms ix : Nat} {D : va_G} {dA ad : Nat → Nat} {x1 : Int32} {x2 : Int32} {u : MS} {Post : Int32 → MS → Prop} (hX : JX X own cc nL ret F LL mc ms) (hK : KM D dA (jj_s X)) (hD : MD ad) (hlk : (Cond.methodLink own ix yX7_cellOf) ∈ lw_all) (hF : 2 + 1 ≤ F) (hL : 8 + (3 + 11) + 43 ≤ LL) (hk : k ≤ mc) (hk2 : n ≤ ms) (hw : (st.map fun v => v.category).sum ≤ 8) (d : decode cc pc = .ok (.invokevirtual ix, 3)) (q : Nat) (hq : pc + 3 = q) (h : mw_cellOf x1 x2 u Post) (kk : ∀ (r : Int32) (u2 : MS), Post r u2 → JJ X (AM ad) Q nL (MW D dA ad u2) k n q lv (.int r :: st)) : JJ X (AM ad) Q nL (MW D dA ad u) k n pc lv (.int x2 :: .int x1 :: .ref (ad 0) :: st) :=
  jm_calli (na := 2) (As := [.int x1, .int x2]) hX hK (mmw_cellOf (jj_l X) D dA ad hD x1 x2 u Post h) hlk q1845 q1846 q129 q1847 hd_mw_cellOf rfl rfl hw hF hL hk hk2 d q hq kk
/-- RaisedPressModel.drop(IZ)Z -/
def mw_drop (x1 : Int32) (x2 : Int32) (u : MS) (Post : Int32 → MS → Prop) : Prop :=
  mw_isRule x1 u (fun r2 u2 =>
    (¬ r2 = 0 →
      (x2 = 0 →
        ∀ u45 : MS, u45 = jm_s u2 1 6 (((jm_i u2 1 6) &&& (((1 : Int32) <<< (x1 &&& 31)) ^^^ (-1 : Int32))) ||| (0 : Int32)) →
        mw_is (0 : Int32) u45 (fun r48 u48 =>
          Post r48 u48)) ∧
      (¬ x2 = 0 →
        ∀ u45 : MS, u45 = jm_s u2 1 6 (((jm_i u2 1 6) &&& (((1 : Int32) <<< (x1 &&& 31)) ^^^ (-1 : Int32))) ||| ((1 : Int32) <<< (x1 &&& 31))) →
        mw_is (0 : Int32) u45 (fun r48 u48 =>
          Post r48 u48))) ∧
    (r2 = 0 →
      mw_is (1 : Int32) u2 (fun r10 u10 =>
        Post r10 u10)))
set_option maxHeartbeats 4000000 in
set_option maxRecDepth 100000 in
theorem mmw_drop (l : Launch) (D : va_G) (dA ad : Nat → Nat) (hD : MD ad) (x1 : Int32) (x2 : Int32) (u : MS) (Post : Int32 → MS → Prop) (h : mw_drop x1 x2 u Post) : Met l yX7_drop (ws_ yX7_drop cX7_drop 3 (Option.some Jvm.ClassFile.FieldType.boolean)) (jm_rm 1 21) (jm_Pc D dA ad u [.int x1, .int x2]) (va_Qi (fun r u => Post r u ∧ jj_z r) (jm_B D dA ad) (AM ad)) 0 0 (AM ad) := by
  refine jm_start [.int x1, .int x2] [(0, .ref (ad 0)), (1, .int x1), (2, .int x2)] (by decide) (Nat.le_of_ble_eq_true rfl) rfl (fun X hX hK => ?_)
  unfold mw_drop at h
  refine jj_aload_n hX dX7_drop_0 0 rfl 1 rfl ?_
  refine jj_iload_n hX dX7_drop_1 1 rfl 2 rfl ?_
  refine kmw_isRule hX hK hD q1836 (Nat.le_of_ble_eq_true rfl) (Nat.le_of_ble_eq_true rfl) (Nat.zero_le _) (Nat.zero_le _) (Nat.le_of_ble_eq_true rfl) dX7_drop_2 5 rfl h (fun r2 u2 hb2 h => ?_)
  refine jj_if_ne hX dX7_drop_5 14 8 (by decide) rfl (fun c5 => ?_) (fun c5 => ?_)
  · have h := h.1 c5
    refine jt_0 hX hK dX7_drop_14 0 rfl dX7_drop_15 q1484 18 rfl rfl ?_
    refine jj_bipush hX dX7_drop_18 cb_6 20 rfl ?_
    refine jt_0 hX hK dX7_drop_20 0 rfl dX7_drop_21 q1484 24 rfl rfl ?_
    refine jj_bipush hX dX7_drop_24 cb_6 26 rfl ?_
    refine jr_1 hX hK 6 kc_6 vi_1_6 dX7_drop_26 27 rfl ?_
    refine jj_iconst hX dX7_drop_27 ci_1 28 rfl ?_
    refine jj_iload_n hX dX7_drop_28 1 rfl 29 rfl ?_
    refine jj_ishl hX dX7_drop_29 30 rfl ?_
    refine jj_iconst hX dX7_drop_30 ci_m1 31 rfl ?_
    refine jj_ixor hX dX7_drop_31 32 rfl ?_
    refine jj_iand hX dX7_drop_32 33 rfl ?_
    refine jj_iload_n hX dX7_drop_33 2 rfl 34 rfl ?_
    refine jj_if_eq hX dX7_drop_34 43 37 (by decide) rfl (fun c34 => ?_) (fun c34 => ?_)
    · have h := h.1 c34
      refine jj_iconst hX dX7_drop_43 ci_0 44 rfl ?_
      refine jj_ior hX dX7_drop_44 45 rfl ?_
      refine jw_1 hX hK hD 6 kc_6 vi_1_6 dX7_drop_45 46 rfl (fun u45 e45 => ?_)
      have h := h u45 e45
      refine jj_aload_n hX dX7_drop_46 0 rfl 47 rfl ?_
      refine jj_iconst hX dX7_drop_47 ci_0 48 rfl ?_
      refine kmw_is hX hK hD q1642 (Nat.le_of_ble_eq_true rfl) (Nat.le_of_ble_eq_true rfl) (Nat.zero_le _) (Nat.zero_le _) (Nat.le_of_ble_eq_true rfl) dX7_drop_48 51 rfl h (fun r48 u48 hb48 h => ?_)
      exact jj_retz (post := Post) (u := u48) hX dX7_drop_51 (Nat.le_refl 0) (Nat.le_refl 0) jm_hB hb48 h
    · have h := h.2 c34
      refine jj_iconst hX dX7_drop_37 ci_1 38 rfl ?_
      refine jj_iload_n hX dX7_drop_38 1 rfl 39 rfl ?_
      refine jj_ishl hX dX7_drop_39 40 rfl ?_
      refine jj_goto hX dX7_drop_40 44 (by decide) ?_
      refine jj_ior hX dX7_drop_44 45 rfl ?_
      refine jw_1 hX hK hD 6 kc_6 vi_1_6 dX7_drop_45 46 rfl (fun u45 e45 => ?_)
      have h := h u45 e45
      refine jj_aload_n hX dX7_drop_46 0 rfl 47 rfl ?_
      refine jj_iconst hX dX7_drop_47 ci_0 48 rfl ?_
      refine kmw_is hX hK hD q1642 (Nat.le_of_ble_eq_true rfl) (Nat.le_of_ble_eq_true rfl) (Nat.zero_le _) (Nat.zero_le _) (Nat.le_of_ble_eq_true rfl) dX7_drop_48 51 rfl h (fun r48 u48 hb48 h => ?_)
      exact jj_retz (post := Post) (u := u48) hX dX7_drop_51 (Nat.le_refl 0) (Nat.le_refl 0) jm_hB hb48 h
  · have h := h.2 c5
    refine jj_aload_n hX dX7_drop_8 0 rfl 9 rfl ?_
    refine jj_iconst hX dX7_drop_9 ci_1 10 rfl ?_
    refine kmw_is hX hK hD q1642 (Nat.le_of_ble_eq_true rfl) (Nat.le_of_ble_eq_true rfl) (Nat.zero_le _) (Nat.zero_le _) (Nat.le_of_ble_eq_true rfl) dX7_drop_10 13 rfl h (fun r10 u10 hb10 h => ?_)
    exact jj_retz (post := Post) (u := u10) hX dX7_drop_13 (Nat.le_refl 0) (Nat.le_refl 0) jm_hB hb10 h
theorem hd_mw_drop : yX7_drop.cls = RX7 ∧ yX7_drop.cls ≠ "java/lang/invoke/MethodHandle" ∧ yX7_drop.cls ≠ "java/lang/invoke/VarHandle" ∧ (parseMethodDescriptor yX7_drop.desc).map (fun d => d.parameters.length) = some 2 := by decide +kernel
theorem kmw_drop {X : JC} {Q : State → Prop} {nL k n pc : Nat} {lv : List (Nat × Value)} {st : List Value} {own : String} {cc : ByteArray} {ret : Option FieldType} {F LL mc ms ix : Nat} {D : va_G} {dA ad : Nat → Nat} {x1 : Int32} {x2 : Int32} {u : MS} {Post : Int32 → MS → Prop} (hX : JX X own cc nL ret F LL mc ms) (hK : KM D dA (jj_s X)) (hD : MD ad) (hlk : (Cond.methodLink own ix yX7_drop) ∈ lw_all) (hF : 1 + 1 ≤ F) (hL : 8 + (3 + 11) + 21 ≤ LL) (hk : k ≤ mc) (hk2 : n ≤ ms) (hw : (st.map fun v => v.category).sum ≤ 8) (d : decode cc pc = .ok (.invokevirtual ix, 3)) (q : Nat) (hq : pc + 3 = q) (h : mw_drop x1 x2 u Post) (kk : ∀ (r : Int32) (u2 : MS), jj_z r → Post r u2 → JJ X (AM ad) Q nL (MW D dA ad u2) k n q lv (.int r :: st)) : JJ X (AM ad) Q nL (MW D dA ad u) k n pc lv (.int x2 :: .int x1 :: .ref (ad 0) :: st) :=
  jm_callz (na := 2) (As := [.int x1, .int x2]) hX hK (mmw_drop (jj_l X) D dA ad hD x1 x2 u Post h) hlk q1857 q1858 q129 q1859 hd_mw_drop rfl rfl hw hF hL hk hk2 d q hq kk
/-- RaisedPressModel.isSet()Z -/
def mw_isSet (u : MS) (Post : Int32 → MS → Prop) : Prop :=
  ((jm_i u 1 7) = (-1 : Int32) →
    Post (0 : Int32) u) ∧
  (¬ (jm_i u 1 7) = (-1 : Int32) →
    Post (1 : Int32) u)
set_option maxHeartbeats 4000000 in
set_option maxRecDepth 100000 in
theorem mmw_isSet (l : Launch) (D : va_G) (dA ad : Nat → Nat) (hD : MD ad) (u : MS) (Post : Int32 → MS → Prop) (h : mw_isSet  u Post) : Met l yX7_isSet (ws_ yX7_isSet cX7_isSet 1 (Option.some Jvm.ClassFile.FieldType.boolean)) (jm_rm 0 0) (jm_Pc D dA ad u []) (va_Qi (fun r u => Post r u ∧ jj_z r) (jm_B D dA ad) (AM ad)) 0 0 (AM ad) := by
  refine jm_start [] [(0, .ref (ad 0))] (by decide) (Nat.le_of_ble_eq_true rfl) rfl (fun X hX hK => ?_)
  unfold mw_isSet at h
  refine jt_0 hX hK dX7_isSet_0 0 rfl dX7_isSet_1 q1484 4 rfl rfl ?_
  refine jj_bipush hX dX7_isSet_4 cb_7 6 rfl ?_
  refine jr_1 hX hK 7 kc_7 vi_1_7 dX7_isSet_6 7 rfl ?_
  refine jj_iconst hX dX7_isSet_7 ci_m1 8 rfl ?_
  refine jj_icmp_eq hX dX7_isSet_8 15 11 (by decide) rfl (fun c8 => ?_) (fun c8 => ?_)
  · have h := h.1 c8
    refine jj_iconst hX dX7_isSet_15 ci_0 16 rfl ?_
    exact jj_retz (post := Post) (u := u) hX dX7_isSet_16 (Nat.le_refl 0) (Nat.le_refl 0) jm_hB jj_z0 h
  · have h := h.2 c8
    refine jj_iconst hX dX7_isSet_11 ci_1 12 rfl ?_
    refine jj_goto hX dX7_isSet_12 16 (by decide) ?_
    exact jj_retz (post := Post) (u := u) hX dX7_isSet_16 (Nat.le_refl 0) (Nat.le_refl 0) jm_hB jj_z1 h
theorem hd_mw_isSet : yX7_isSet.cls = RX7 ∧ yX7_isSet.cls ≠ "java/lang/invoke/MethodHandle" ∧ yX7_isSet.cls ≠ "java/lang/invoke/VarHandle" ∧ (parseMethodDescriptor yX7_isSet.desc).map (fun d => d.parameters.length) = some 0 := by decide +kernel
theorem kmw_isSet {X : JC} {Q : State → Prop} {nL k n pc : Nat} {lv : List (Nat × Value)} {st : List Value} {own : String} {cc : ByteArray} {ret : Option FieldType} {F LL mc ms ix : Nat} {D : va_G} {dA ad : Nat → Nat} {u : MS} {Post : Int32 → MS → Prop} (hX : JX X own cc nL ret F LL mc ms) (hK : KM D dA (jj_s X)) (hD : MD ad) (hlk : (Cond.methodLink own ix yX7_isSet) ∈ lw_all) (hF : 0 + 1 ≤ F) (hL : 8 + (1 + 11) + 0 ≤ LL) (hk : k ≤ mc) (hk2 : n ≤ ms) (hw : (st.map fun v => v.category).sum ≤ 8) (d : decode cc pc = .ok (.invokevirtual ix, 3)) (q : Nat) (hq : pc + 3 = q) (h : mw_isSet  u Post) (kk : ∀ (r : Int32) (u2 : MS), jj_z r → Post r u2 → JJ X (AM ad) Q nL (MW D dA ad u2) k n q lv (.int r :: st)) : JJ X (AM ad) Q nL (MW D dA ad u) k n pc lv (.ref (ad 0) :: st) :=
  jm_callz (na := 0) (As := []) hX hK (mmw_isSet (jj_l X) D dA ad hD  u Post h) hlk q1866 qs91 q129 q1867 hd_mw_isSet rfl rfl hw hF hL hk hk2 d q hq kk
def mw_laysBytes_L17_S (Post : MS → Prop) (R : Int32 → MS → Prop) (x1 : Int32) (u : MS) : Prop :=
  ((jm_i u 1 7) ≤ x1 →
    Post u) ∧
  (¬ (jm_i u 1 7) ≤ x1 →
    vp_in ((300 : Int32) + x1) 19800 ∧
    vp_in ((16800 : Int32) + x1) 19800 ∧
    ∀ u47 : MS, u47 = jm_s u 1 ((16800 : Int32) + x1).toNatClampNeg (jm_i u 1 ((300 : Int32) + x1).toNatClampNeg) →
    ∀ v48 : Int32, v48 = x1 + (1 : Int32) →
    R v48 u47)
def mw_laysBytes_L17 (Post : MS → Prop) : Nat → Int32 → MS → Prop
  | 0 => fun _ _ => False
  | n + 1 => fun x1 u => mw_laysBytes_L17_S Post (mw_laysBytes_L17 Post n) x1 u
/-- RaisedPressModel.laysBytes()V -/
def mw_laysBytes (u : MS) (Post : MS → Prop) : Prop :=
  ∀ u14 : MS, u14 = jm_s u 1 16507 (jm_i u 1 7) →
  ∃ n, mw_laysBytes_L17 Post n (0 : Int32) u14
set_option maxHeartbeats 4000000 in
set_option maxRecDepth 100000 in
theorem tmw_laysBytes_L17 {X : JC} {D : va_G} {dA ad : Nat → Nat} {Post : MS → Prop} (hX : JX X yX7_laysBytes.cls cX7_laysBytes 2 (Option.none : Option Jvm.ClassFile.FieldType) 0 0 0 0) (hK : KM D dA (jj_s X)) (hD : MD ad) : ∀ (n : Nat) (x1 : Int32) (u : MS), mw_laysBytes_L17 Post n x1 u → JJ X (AM ad) (jj_Q X (va_Qv Post (jm_B D dA ad) (AM ad)) 0 0 (AM ad)) 2 (MW D dA ad u) 0 0 17 [(0, .ref (ad 0)), (1, .int x1)] [] := by
  intro n
  induction n with
  | zero =>
    intro x1 u h
    exact h.elim
  | succ n ih =>
    intro x1 u h
    have h : mw_laysBytes_L17_S Post (mw_laysBytes_L17 Post n) x1 u := h
    unfold mw_laysBytes_L17_S at h
    refine jj_iload_n hX dX7_laysBytes_17 1 rfl 18 rfl ?_
    refine jt_0 hX hK dX7_laysBytes_18 0 rfl dX7_laysBytes_19 q1484 22 rfl rfl ?_
    refine jj_bipush hX dX7_laysBytes_22 cb_7 24 rfl ?_
    refine jr_1 hX hK 7 kc_7 vi_1_7 dX7_laysBytes_24 25 rfl ?_
    refine jj_icmp_ge hX dX7_laysBytes_25 54 28 (by decide) rfl (fun c25 => ?_) (fun c25 => ?_)
    · have h := h.1 c25
      exact jj_retv hX dX7_laysBytes_54 (Nat.le_refl 0) (Nat.le_refl 0) jm_hB h
    · have h := h.2 c25
      refine jt_0 hX hK dX7_laysBytes_28 0 rfl dX7_laysBytes_29 q1484 32 rfl rfl ?_
      refine jj_sipush hX dX7_laysBytes_32 cs_16800 35 rfl ?_
      refine jj_iload_n hX dX7_laysBytes_35 1 rfl 36 rfl ?_
      refine jj_iadd hX dX7_laysBytes_36 37 rfl ?_
      refine jt_0 hX hK dX7_laysBytes_37 0 rfl dX7_laysBytes_38 q1484 41 rfl rfl ?_
      refine jj_sipush hX dX7_laysBytes_41 cs_300 44 rfl ?_
      refine jj_iload_n hX dX7_laysBytes_44 1 rfl 45 rfl ?_
      refine jj_iadd hX dX7_laysBytes_45 46 rfl ?_
      obtain ⟨hi46, h⟩ := h
      refine jr_1 hX hK _ rfl hi46 dX7_laysBytes_46 47 rfl ?_
      obtain ⟨hi47, h⟩ := h
      refine jw_1 hX hK hD _ rfl hi47 dX7_laysBytes_47 48 rfl (fun u47 e47 => ?_)
      have h := h u47 e47
      obtain ⟨v48, e48⟩ : ∃ y : Int32, y = x1 + (1 : Int32) := ⟨_, rfl⟩
      have h := h v48 e48
      refine jj_iinc (v := v48) (lv2 := [(0, .ref (ad 0)), (1, .int v48)]) hX dX7_laysBytes_48 1 rfl (by rw [e48, ci_1]) (Nat.le_of_ble_eq_true rfl) [1, 0] rfl 51 rfl ?_
      refine jj_goto hX dX7_laysBytes_51 17 (by decide) ?_
      exact ih _ _ h
set_option maxHeartbeats 4000000 in
set_option maxRecDepth 100000 in
theorem mmw_laysBytes (l : Launch) (D : va_G) (dA ad : Nat → Nat) (hD : MD ad) (u : MS) (Post : MS → Prop) (h : mw_laysBytes  u Post) : Met l yX7_laysBytes (ws_ yX7_laysBytes cX7_laysBytes 2 (Option.none : Option Jvm.ClassFile.FieldType)) (jm_rm 0 0) (jm_Pc D dA ad u []) (va_Qv Post (jm_B D dA ad) (AM ad)) 0 0 (AM ad) := by
  refine jm_start [] [(0, .ref (ad 0))] (by decide) (Nat.le_of_ble_eq_true rfl) rfl (fun X hX hK => ?_)
  unfold mw_laysBytes at h
  refine jt_0 hX hK dX7_laysBytes_0 0 rfl dX7_laysBytes_1 q1484 4 rfl rfl ?_
  refine jj_sipush hX dX7_laysBytes_4 cs_16507 7 rfl ?_
  refine jt_0 hX hK dX7_laysBytes_7 0 rfl dX7_laysBytes_8 q1484 11 rfl rfl ?_
  refine jj_bipush hX dX7_laysBytes_11 cb_7 13 rfl ?_
  refine jr_1 hX hK 7 kc_7 vi_1_7 dX7_laysBytes_13 14 rfl ?_
  refine jw_1 hX hK hD 16507 kc_16507 vi_1_16507 dX7_laysBytes_14 15 rfl (fun u14 e14 => ?_)
  have h := h u14 e14
  refine jj_iconst hX dX7_laysBytes_15 ci_0 16 rfl ?_
  refine jj_istore_n (lv2 := [(0, .ref (ad 0)), (1, .int (0 : Int32))]) hX dX7_laysBytes_16 (Nat.le_of_ble_eq_true rfl) [1, 0] rfl 17 rfl ?_
  obtain ⟨n9, h⟩ := h
  exact tmw_laysBytes_L17 hX hK hD n9 _ _ h
theorem hd_mw_laysBytes : yX7_laysBytes.cls = RX7 ∧ yX7_laysBytes.cls ≠ "java/lang/invoke/MethodHandle" ∧ yX7_laysBytes.cls ≠ "java/lang/invoke/VarHandle" ∧ (parseMethodDescriptor yX7_laysBytes.desc).map (fun d => d.parameters.length) = some 0 := by decide +kernel
theorem kmw_laysBytes {X : JC} {Q : State → Prop} {nL k n pc : Nat} {lv : List (Nat × Value)} {st : List Value} {own : String} {cc : ByteArray} {ret : Option FieldType} {F LL mc ms ix : Nat} {D : va_G} {dA ad : Nat → Nat} {u : MS} {Post : MS → Prop} (hX : JX X own cc nL ret F LL mc ms) (hK : KM D dA (jj_s X)) (hD : MD ad) (hlk : (Cond.methodLink own ix yX7_laysBytes) ∈ lw_all) (hF : 0 + 1 ≤ F) (hL : 8 + (2 + 11) + 0 ≤ LL) (hk : k ≤ mc) (hk2 : n ≤ ms) (hw : (st.map fun v => v.category).sum ≤ 8) (d : decode cc pc = .ok (.invokevirtual ix, 3)) (q : Nat) (hq : pc + 3 = q) (h : mw_laysBytes  u Post) (kk : ∀ u2 : MS, Post u2 → JJ X (AM ad) Q nL (MW D dA ad u2) k n q lv st) : JJ X (AM ad) Q nL (MW D dA ad u) k n pc lv (.ref (ad 0) :: st) :=
  jm_callv (na := 0) (As := []) hX hK (mmw_laysBytes (jj_l X) D dA ad hD  u Post h) hlk q1870 qs92 q129 q1871 hd_mw_laysBytes rfl rfl hw hF hL hk hk2 d q hq kk
/-- RaisedPressModel.reset()I -/
def mw_reset (u : MS) (Post : Int32 → MS → Prop) : Prop :=
  mw_isSet u (fun r1 u1 =>
    (¬ r1 = 0 →
      mw_laysBytes u1 (fun u15 =>
        mw_setsAll (jm_i u15 1 6) u15 (fun r26 u26 =>
          (¬ r26 = 0 →
            mw_takesSet u26 (fun u40 =>
              mw_gives (jm_i u40 1 8) u40 (fun r51 u51 =>
                Post r51 u51))) ∧
          (r26 = 0 →
            mw_refuse (7 : Int32) u26 (fun r35 u35 =>
              Post r35 u35))))) ∧
    (r1 = 0 →
      mw_refuse (6 : Int32) u1 (fun r10 u10 =>
        Post r10 u10)))
set_option maxHeartbeats 4000000 in
set_option maxRecDepth 100000 in
theorem mmw_reset (l : Launch) (D : va_G) (dA ad : Nat → Nat) (hD : MD ad) (u : MS) (Post : Int32 → MS → Prop) (h : mw_reset  u Post) : Met l yX7_reset (ws_ yX7_reset cX7_reset 1 (Option.some Jvm.ClassFile.FieldType.int)) (jm_rm 6 141) (jm_Pc D dA ad u []) (va_Qi Post (jm_B D dA ad) (AM ad)) 0 0 (AM ad) := by
  refine jm_start [] [(0, .ref (ad 0))] (by decide) (Nat.le_of_ble_eq_true rfl) rfl (fun X hX hK => ?_)
  unfold mw_reset at h
  refine jj_aload_n hX dX7_reset_0 0 rfl 1 rfl ?_
  refine kmw_isSet hX hK hD q1864 (Nat.le_of_ble_eq_true rfl) (Nat.le_of_ble_eq_true rfl) (Nat.zero_le _) (Nat.zero_le _) (Nat.le_of_ble_eq_true rfl) dX7_reset_1 4 rfl h (fun r1 u1 hb1 h => ?_)
  refine jj_if_ne hX dX7_reset_4 14 7 (by decide) rfl (fun c4 => ?_) (fun c4 => ?_)
  · have h := h.1 c4
    refine jj_aload_n hX dX7_reset_14 0 rfl 15 rfl ?_
    refine kmw_laysBytes hX hK hD q1868 (Nat.le_of_ble_eq_true rfl) (Nat.le_of_ble_eq_true rfl) (Nat.zero_le _) (Nat.zero_le _) (Nat.le_of_ble_eq_true rfl) dX7_reset_15 18 rfl h (fun u15 h => ?_)
    refine jj_aload_n hX dX7_reset_18 0 rfl 19 rfl ?_
    refine jt_0 hX hK dX7_reset_19 0 rfl dX7_reset_20 q1484 23 rfl rfl ?_
    refine jj_bipush hX dX7_reset_23 cb_6 25 rfl ?_
    refine jr_1 hX hK 6 kc_6 vi_1_6 dX7_reset_25 26 rfl ?_
    refine kmw_setsAll hX hK hD q1760 (Nat.le_of_ble_eq_true rfl) (Nat.le_of_ble_eq_true rfl) (Nat.zero_le _) (Nat.zero_le _) (Nat.le_of_ble_eq_true rfl) dX7_reset_26 29 rfl h (fun r26 u26 hb26 h => ?_)
    refine jj_if_ne hX dX7_reset_29 39 32 (by decide) rfl (fun c29 => ?_) (fun c29 => ?_)
    · have h := h.1 c29
      refine jj_aload_n hX dX7_reset_39 0 rfl 40 rfl ?_
      refine kmw_takesSet hX hK hD q1824 (Nat.le_of_ble_eq_true rfl) (Nat.le_of_ble_eq_true rfl) (Nat.zero_le _) (Nat.zero_le _) (Nat.le_of_ble_eq_true rfl) dX7_reset_40 43 rfl h (fun u40 h => ?_)
      refine jj_aload_n hX dX7_reset_43 0 rfl 44 rfl ?_
      refine jt_0 hX hK dX7_reset_44 0 rfl dX7_reset_45 q1484 48 rfl rfl ?_
      refine jj_bipush hX dX7_reset_48 cb_8 50 rfl ?_
      refine jr_1 hX hK 8 kc_8 vi_1_8 dX7_reset_50 51 rfl ?_
      refine kmw_gives hX hK hD q1752 (Nat.le_of_ble_eq_true rfl) (Nat.le_of_ble_eq_true rfl) (Nat.zero_le _) (Nat.zero_le _) (Nat.le_of_ble_eq_true rfl) dX7_reset_51 54 rfl h (fun r51 u51 h => ?_)
      exact jj_reti (post := Post) (u := u51) hX dX7_reset_54 (Nat.le_refl 0) (Nat.le_refl 0) jm_hB h
    · have h := h.2 c29
      refine jj_aload_n hX dX7_reset_32 0 rfl 33 rfl ?_
      refine jj_bipush hX dX7_reset_33 cb_7 35 rfl ?_
      refine kmw_refuse hX hK hD q1702 (Nat.le_of_ble_eq_true rfl) (Nat.le_of_ble_eq_true rfl) (Nat.zero_le _) (Nat.zero_le _) (Nat.le_of_ble_eq_true rfl) dX7_reset_35 38 rfl h (fun r35 u35 h => ?_)
      exact jj_reti (post := Post) (u := u35) hX dX7_reset_38 (Nat.le_refl 0) (Nat.le_refl 0) jm_hB h
  · have h := h.2 c4
    refine jj_aload_n hX dX7_reset_7 0 rfl 8 rfl ?_
    refine jj_bipush hX dX7_reset_8 cb_6 10 rfl ?_
    refine kmw_refuse hX hK hD q1702 (Nat.le_of_ble_eq_true rfl) (Nat.le_of_ble_eq_true rfl) (Nat.zero_le _) (Nat.zero_le _) (Nat.le_of_ble_eq_true rfl) dX7_reset_10 13 rfl h (fun r10 u10 h => ?_)
    exact jj_reti (post := Post) (u := u10) hX dX7_reset_13 (Nat.le_refl 0) (Nat.le_refl 0) jm_hB h
theorem hd_mw_reset : yX7_reset.cls = RX7 ∧ yX7_reset.cls ≠ "java/lang/invoke/MethodHandle" ∧ yX7_reset.cls ≠ "java/lang/invoke/VarHandle" ∧ (parseMethodDescriptor yX7_reset.desc).map (fun d => d.parameters.length) = some 0 := by decide +kernel
theorem kmw_reset {X : JC} {Q : State → Prop} {nL k n pc : Nat} {lv : List (Nat × Value)} {st : List Value} {own : String} {cc : ByteArray} {ret : Option FieldType} {F LL mc ms ix : Nat} {D : va_G} {dA ad : Nat → Nat} {u : MS} {Post : Int32 → MS → Prop} (hX : JX X own cc nL ret F LL mc ms) (hK : KM D dA (jj_s X)) (hD : MD ad) (hlk : (Cond.methodLink own ix yX7_reset) ∈ lw_all) (hF : 6 + 1 ≤ F) (hL : 8 + (1 + 11) + 141 ≤ LL) (hk : k ≤ mc) (hk2 : n ≤ ms) (hw : (st.map fun v => v.category).sum ≤ 8) (d : decode cc pc = .ok (.invokevirtual ix, 3)) (q : Nat) (hq : pc + 3 = q) (h : mw_reset  u Post) (kk : ∀ (r : Int32) (u2 : MS), Post r u2 → JJ X (AM ad) Q nL (MW D dA ad u2) k n q lv (.int r :: st)) : JJ X (AM ad) Q nL (MW D dA ad u) k n pc lv (.ref (ad 0) :: st) :=
  jm_calli (na := 0) (As := []) hX hK (mmw_reset (jj_l X) D dA ad hD  u Post h) hlk q1861 q1862 q129 q1863 hd_mw_reset rfl rfl hw hF hL hk hk2 d q hq kk
/-- RaisedPressModel.pieceMany(I)I -/
def mw_pieceMany (x1 : Int32) (u : MS) (Post : Int32 → MS → Prop) : Prop :=
  ((jm_i u 1 9) ≤ (x1 + (1 : Int32)) →
    vp_in ((1850 : Int32) + x1) 19800 ∧
    Post ((jm_i u 1 8) - (jm_i u 1 ((1850 : Int32) + x1).toNatClampNeg)) u) ∧
  (¬ (jm_i u 1 9) ≤ (x1 + (1 : Int32)) →
    vp_in (((1850 : Int32) + x1) + (1 : Int32)) 19800 ∧
    vp_in ((1850 : Int32) + x1) 19800 ∧
    Post (((jm_i u 1 (((1850 : Int32) + x1) + (1 : Int32)).toNatClampNeg) - (1 : Int32)) - (jm_i u 1 ((1850 : Int32) + x1).toNatClampNeg)) u)
set_option maxHeartbeats 4000000 in
set_option maxRecDepth 100000 in
theorem mmw_pieceMany (l : Launch) (D : va_G) (dA ad : Nat → Nat) (hD : MD ad) (x1 : Int32) (u : MS) (Post : Int32 → MS → Prop) (h : mw_pieceMany x1 u Post) : Met l yX7_pieceMany (ws_ yX7_pieceMany cX7_pieceMany 2 (Option.some Jvm.ClassFile.FieldType.int)) (jm_rm 0 0) (jm_Pc D dA ad u [.int x1]) (va_Qi Post (jm_B D dA ad) (AM ad)) 0 0 (AM ad) := by
  refine jm_start [.int x1] [(0, .ref (ad 0)), (1, .int x1)] (by decide) (Nat.le_of_ble_eq_true rfl) rfl (fun X hX hK => ?_)
  unfold mw_pieceMany at h
  refine jj_iload_n hX dX7_pieceMany_0 1 rfl 1 rfl ?_
  refine jj_iconst hX dX7_pieceMany_1 ci_1 2 rfl ?_
  refine jj_iadd hX dX7_pieceMany_2 3 rfl ?_
  refine jt_0 hX hK dX7_pieceMany_3 0 rfl dX7_pieceMany_4 q1484 7 rfl rfl ?_
  refine jj_bipush hX dX7_pieceMany_7 cb_9 9 rfl ?_
  refine jr_1 hX hK 9 kc_9 vi_1_9 dX7_pieceMany_9 10 rfl ?_
  refine jj_icmp_ge hX dX7_pieceMany_10 30 13 (by decide) rfl (fun c10 => ?_) (fun c10 => ?_)
  · have h := h.1 c10
    refine jt_0 hX hK dX7_pieceMany_30 0 rfl dX7_pieceMany_31 q1484 34 rfl rfl ?_
    refine jj_bipush hX dX7_pieceMany_34 cb_8 36 rfl ?_
    refine jr_1 hX hK 8 kc_8 vi_1_8 dX7_pieceMany_36 37 rfl ?_
    refine jt_0 hX hK dX7_pieceMany_37 0 rfl dX7_pieceMany_38 q1484 41 rfl rfl ?_
    refine jj_sipush hX dX7_pieceMany_41 cs_1850 44 rfl ?_
    refine jj_iload_n hX dX7_pieceMany_44 1 rfl 45 rfl ?_
    refine jj_iadd hX dX7_pieceMany_45 46 rfl ?_
    obtain ⟨hi46, h⟩ := h
    refine jr_1 hX hK _ rfl hi46 dX7_pieceMany_46 47 rfl ?_
    refine jj_isub hX dX7_pieceMany_47 48 rfl ?_
    exact jj_reti (post := Post) (u := u) hX dX7_pieceMany_48 (Nat.le_refl 0) (Nat.le_refl 0) jm_hB h
  · have h := h.2 c10
    refine jt_0 hX hK dX7_pieceMany_13 0 rfl dX7_pieceMany_14 q1484 17 rfl rfl ?_
    refine jj_sipush hX dX7_pieceMany_17 cs_1850 20 rfl ?_
    refine jj_iload_n hX dX7_pieceMany_20 1 rfl 21 rfl ?_
    refine jj_iadd hX dX7_pieceMany_21 22 rfl ?_
    refine jj_iconst hX dX7_pieceMany_22 ci_1 23 rfl ?_
    refine jj_iadd hX dX7_pieceMany_23 24 rfl ?_
    obtain ⟨hi24, h⟩ := h
    refine jr_1 hX hK _ rfl hi24 dX7_pieceMany_24 25 rfl ?_
    refine jj_iconst hX dX7_pieceMany_25 ci_1 26 rfl ?_
    refine jj_isub hX dX7_pieceMany_26 27 rfl ?_
    refine jj_goto hX dX7_pieceMany_27 37 (by decide) ?_
    refine jt_0 hX hK dX7_pieceMany_37 0 rfl dX7_pieceMany_38 q1484 41 rfl rfl ?_
    refine jj_sipush hX dX7_pieceMany_41 cs_1850 44 rfl ?_
    refine jj_iload_n hX dX7_pieceMany_44 1 rfl 45 rfl ?_
    refine jj_iadd hX dX7_pieceMany_45 46 rfl ?_
    obtain ⟨hi46, h⟩ := h
    refine jr_1 hX hK _ rfl hi46 dX7_pieceMany_46 47 rfl ?_
    refine jj_isub hX dX7_pieceMany_47 48 rfl ?_
    exact jj_reti (post := Post) (u := u) hX dX7_pieceMany_48 (Nat.le_refl 0) (Nat.le_refl 0) jm_hB h
theorem hd_mw_pieceMany : yX7_pieceMany.cls = RX7 ∧ yX7_pieceMany.cls ≠ "java/lang/invoke/MethodHandle" ∧ yX7_pieceMany.cls ≠ "java/lang/invoke/VarHandle" ∧ (parseMethodDescriptor yX7_pieceMany.desc).map (fun d => d.parameters.length) = some 1 := by decide +kernel
theorem kmw_pieceMany {X : JC} {Q : State → Prop} {nL k n pc : Nat} {lv : List (Nat × Value)} {st : List Value} {own : String} {cc : ByteArray} {ret : Option FieldType} {F LL mc ms ix : Nat} {D : va_G} {dA ad : Nat → Nat} {x1 : Int32} {u : MS} {Post : Int32 → MS → Prop} (hX : JX X own cc nL ret F LL mc ms) (hK : KM D dA (jj_s X)) (hD : MD ad) (hlk : (Cond.methodLink own ix yX7_pieceMany) ∈ lw_all) (hF : 0 + 1 ≤ F) (hL : 8 + (2 + 11) + 0 ≤ LL) (hk : k ≤ mc) (hk2 : n ≤ ms) (hw : (st.map fun v => v.category).sum ≤ 8) (d : decode cc pc = .ok (.invokevirtual ix, 3)) (q : Nat) (hq : pc + 3 = q) (h : mw_pieceMany x1 u Post) (kk : ∀ (r : Int32) (u2 : MS), Post r u2 → JJ X (AM ad) Q nL (MW D dA ad u2) k n q lv (.int r :: st)) : JJ X (AM ad) Q nL (MW D dA ad u) k n pc lv (.int x1 :: .ref (ad 0) :: st) :=
  jm_calli (na := 1) (As := [.int x1]) hX hK (mmw_pieceMany (jj_l X) D dA ad hD x1 u Post h) hlk q1882 qs94 q129 q1883 hd_mw_pieceMany rfl rfl hw hF hL hk hk2 d q hq kk
/-- RaisedPressModel.newLine()V -/
def mw_newLine (u : MS) (Post : MS → Prop) : Prop :=
  vp_in (jm_i u 0 27) 1300 ∧
  ∀ u12 : MS, u12 = jm_s u 8 (jm_i u 0 27).toNatClampNeg (jm_i u 0 28) →
  vp_in (jm_i u12 0 27) 1300 ∧
  ∀ u22 : MS, u22 = jm_s u12 9 (jm_i u12 0 27).toNatClampNeg (0 : Int32) →
  ∀ u30 : MS, u30 = jm_s u22 0 27 ((jm_i u22 0 27) + (1 : Int32)) →
  Post u30
set_option maxHeartbeats 4000000 in
set_option maxRecDepth 100000 in
theorem mmw_newLine (l : Launch) (D : va_G) (dA ad : Nat → Nat) (hD : MD ad) (u : MS) (Post : MS → Prop) (h : mw_newLine  u Post) : Met l yX7_newLine (ws_ yX7_newLine cX7_newLine 1 (Option.none : Option Jvm.ClassFile.FieldType)) (jm_rm 0 0) (jm_Pc D dA ad u []) (va_Qv Post (jm_B D dA ad) (AM ad)) 0 0 (AM ad) := by
  refine jm_start [] [(0, .ref (ad 0))] (by decide) (Nat.le_of_ble_eq_true rfl) rfl (fun X hX hK => ?_)
  unfold mw_newLine at h
  refine jt_23 hX hK dX7_newLine_0 0 rfl dX7_newLine_1 q1507 4 rfl rfl ?_
  refine jt_27 hX hK dX7_newLine_4 0 rfl dX7_newLine_5 q1511 8 rfl rfl ?_
  refine jt_28 hX hK dX7_newLine_8 0 rfl dX7_newLine_9 q1512 12 rfl rfl ?_
  obtain ⟨hi12, h⟩ := h
  refine jw_8 hX hK hD _ rfl hi12 dX7_newLine_12 13 rfl (fun u12 e12 => ?_)
  have h := h u12 e12
  refine jt_24 hX hK dX7_newLine_13 0 rfl dX7_newLine_14 q1508 17 rfl rfl ?_
  refine jt_27 hX hK dX7_newLine_17 0 rfl dX7_newLine_18 q1511 21 rfl rfl ?_
  refine jj_iconst hX dX7_newLine_21 ci_0 22 rfl ?_
  obtain ⟨hi22, h⟩ := h
  refine jw_9 hX hK hD _ rfl hi22 dX7_newLine_22 23 rfl (fun u22 e22 => ?_)
  have h := h u22 e22
  refine jj_aload_n hX dX7_newLine_23 0 rfl 24 rfl ?_
  refine jj_dup hX dX7_newLine_24 rfl 25 rfl ?_
  refine jg_27 hX hK dX7_newLine_25 q1511 28 rfl ?_
  refine jj_iconst hX dX7_newLine_28 ci_1 29 rfl ?_
  refine jj_iadd hX dX7_newLine_29 30 rfl ?_
  refine jp_27 hX hK hD dX7_newLine_30 q1511 33 rfl (fun u30 e30 => ?_)
  have h := h u30 e30
  exact jj_retv hX dX7_newLine_33 (Nat.le_refl 0) (Nat.le_refl 0) jm_hB h
theorem hd_mw_newLine : yX7_newLine.cls = RX7 ∧ yX7_newLine.cls ≠ "java/lang/invoke/MethodHandle" ∧ yX7_newLine.cls ≠ "java/lang/invoke/VarHandle" ∧ (parseMethodDescriptor yX7_newLine.desc).map (fun d => d.parameters.length) = some 0 := by decide +kernel
theorem kmw_newLine {X : JC} {Q : State → Prop} {nL k n pc : Nat} {lv : List (Nat × Value)} {st : List Value} {own : String} {cc : ByteArray} {ret : Option FieldType} {F LL mc ms ix : Nat} {D : va_G} {dA ad : Nat → Nat} {u : MS} {Post : MS → Prop} (hX : JX X own cc nL ret F LL mc ms) (hK : KM D dA (jj_s X)) (hD : MD ad) (hlk : (Cond.methodLink own ix yX7_newLine) ∈ lw_all) (hF : 0 + 1 ≤ F) (hL : 8 + (1 + 11) + 0 ≤ LL) (hk : k ≤ mc) (hk2 : n ≤ ms) (hw : (st.map fun v => v.category).sum ≤ 8) (d : decode cc pc = .ok (.invokevirtual ix, 3)) (q : Nat) (hq : pc + 3 = q) (h : mw_newLine  u Post) (kk : ∀ u2 : MS, Post u2 → JJ X (AM ad) Q nL (MW D dA ad u2) k n q lv st) : JJ X (AM ad) Q nL (MW D dA ad u) k n pc lv (.ref (ad 0) :: st) :=
  jm_callv (na := 0) (As := []) hX hK (mmw_newLine (jj_l X) D dA ad hD  u Post h) hlk q1886 qs95 q129 q1887 hd_mw_newLine rfl rfl hw hF hL hk hk2 d q hq kk
/-- RaisedPressModel.laysCell(I)V -/
def mw_laysCell (x1 : Int32) (u : MS) (Post : MS → Prop) : Prop :=
  vp_in (jm_i u 0 28) 2600 ∧
  ∀ u9 : MS, u9 = jm_s u 7 (jm_i u 0 28).toNatClampNeg x1 →
  ∀ u17 : MS, u17 = jm_s u9 0 28 ((jm_i u9 0 28) + (1 : Int32)) →
  ∀ v30 : Int32, v30 = ((jm_i u17 0 27) - (1 : Int32)) →
  vp_in v30 1300 ∧
  vp_in v30 1300 ∧
  ∀ u34 : MS, u34 = jm_s u17 9 v30.toNatClampNeg ((jm_i u17 9 v30.toNatClampNeg) + (1 : Int32)) →
  Post u34
set_option maxHeartbeats 4000000 in
set_option maxRecDepth 100000 in
theorem mmw_laysCell (l : Launch) (D : va_G) (dA ad : Nat → Nat) (hD : MD ad) (x1 : Int32) (u : MS) (Post : MS → Prop) (h : mw_laysCell x1 u Post) : Met l yX7_laysCell (ws_ yX7_laysCell cX7_laysCell 2 (Option.none : Option Jvm.ClassFile.FieldType)) (jm_rm 0 0) (jm_Pc D dA ad u [.int x1]) (va_Qv Post (jm_B D dA ad) (AM ad)) 0 0 (AM ad) := by
  refine jm_start [.int x1] [(0, .ref (ad 0)), (1, .int x1)] (by decide) (Nat.le_of_ble_eq_true rfl) rfl (fun X hX hK => ?_)
  unfold mw_laysCell at h
  refine jt_22 hX hK dX7_laysCell_0 0 rfl dX7_laysCell_1 q1506 4 rfl rfl ?_
  refine jt_28 hX hK dX7_laysCell_4 0 rfl dX7_laysCell_5 q1512 8 rfl rfl ?_
  refine jj_iload_n hX dX7_laysCell_8 1 rfl 9 rfl ?_
  obtain ⟨hi9, h⟩ := h
  refine jw_7 hX hK hD _ rfl hi9 dX7_laysCell_9 10 rfl (fun u9 e9 => ?_)
  have h := h u9 e9
  refine jj_aload_n hX dX7_laysCell_10 0 rfl 11 rfl ?_
  refine jj_dup hX dX7_laysCell_11 rfl 12 rfl ?_
  refine jg_28 hX hK dX7_laysCell_12 q1512 15 rfl ?_
  refine jj_iconst hX dX7_laysCell_15 ci_1 16 rfl ?_
  refine jj_iadd hX dX7_laysCell_16 17 rfl ?_
  refine jp_28 hX hK hD dX7_laysCell_17 q1512 20 rfl (fun u17 e17 => ?_)
  have h := h u17 e17
  refine jt_24 hX hK dX7_laysCell_20 0 rfl dX7_laysCell_21 q1508 24 rfl rfl ?_
  refine jt_27 hX hK dX7_laysCell_24 0 rfl dX7_laysCell_25 q1511 28 rfl rfl ?_
  refine jj_iconst hX dX7_laysCell_28 ci_1 29 rfl ?_
  refine jj_isub hX dX7_laysCell_29 30 rfl ?_
  refine jj_topi (fun v30 e30 => ?_)
  have h := h v30 e30
  refine jj_dup2 hX dX7_laysCell_30 rfl rfl 31 rfl ?_
  obtain ⟨hi31, h⟩ := h
  refine jr_9 hX hK _ rfl hi31 dX7_laysCell_31 32 rfl ?_
  refine jj_iconst hX dX7_laysCell_32 ci_1 33 rfl ?_
  refine jj_iadd hX dX7_laysCell_33 34 rfl ?_
  obtain ⟨hi34, h⟩ := h
  refine jw_9 hX hK hD _ rfl hi34 dX7_laysCell_34 35 rfl (fun u34 e34 => ?_)
  have h := h u34 e34
  exact jj_retv hX dX7_laysCell_35 (Nat.le_refl 0) (Nat.le_refl 0) jm_hB h
theorem hd_mw_laysCell : yX7_laysCell.cls = RX7 ∧ yX7_laysCell.cls ≠ "java/lang/invoke/MethodHandle" ∧ yX7_laysCell.cls ≠ "java/lang/invoke/VarHandle" ∧ (parseMethodDescriptor yX7_laysCell.desc).map (fun d => d.parameters.length) = some 1 := by decide +kernel
theorem kmw_laysCell {X : JC} {Q : State → Prop} {nL k n pc : Nat} {lv : List (Nat × Value)} {st : List Value} {own : String} {cc : ByteArray} {ret : Option FieldType} {F LL mc ms ix : Nat} {D : va_G} {dA ad : Nat → Nat} {x1 : Int32} {u : MS} {Post : MS → Prop} (hX : JX X own cc nL ret F LL mc ms) (hK : KM D dA (jj_s X)) (hD : MD ad) (hlk : (Cond.methodLink own ix yX7_laysCell) ∈ lw_all) (hF : 0 + 1 ≤ F) (hL : 8 + (2 + 11) + 0 ≤ LL) (hk : k ≤ mc) (hk2 : n ≤ ms) (hw : (st.map fun v => v.category).sum ≤ 8) (d : decode cc pc = .ok (.invokevirtual ix, 3)) (q : Nat) (hq : pc + 3 = q) (h : mw_laysCell x1 u Post) (kk : ∀ u2 : MS, Post u2 → JJ X (AM ad) Q nL (MW D dA ad u2) k n q lv st) : JJ X (AM ad) Q nL (MW D dA ad u) k n pc lv (.int x1 :: .ref (ad 0) :: st) :=
  jm_callv (na := 1) (As := [.int x1]) hX hK (mmw_laysCell (jj_l X) D dA ad hD x1 u Post h) hlk q1890 qs96 q129 q1891 hd_mw_laysCell rfl rfl hw hF hL hk hk2 d q hq kk
def mw_laysLines_L212_S (K24 : Int32 → MS → Prop) (Post : MS → Prop) (x1 : Int32) (x2 : Int32) (x3 : Int32) (R : Int32 → MS → Prop) (x5 : Int32) (u : MS) : Prop :=
  (x3 ≤ x5 →
    vp_in x2 160 ∧
    ∀ u261 : MS, u261 = jm_s u 11 x2.toNatClampNeg ((jm_i u 0 27) - (1 : Int32)) →
    ∀ v262 : Int32, v262 = x2 + (1 : Int32) →
    K24 v262 u261) ∧
  (¬ x3 ≤ x5 →
    vp_in ((1850 : Int32) + x2) 19800 ∧
    vp_in (((600 : Int32) + (jm_i u 1 ((1850 : Int32) + x2).toNatClampNeg)) + x5) 19800 ∧
    mw_laysCell (jm_i u 1 (((600 : Int32) + (jm_i u 1 ((1850 : Int32) + x2).toNatClampNeg)) + x5).toNatClampNeg) u (fun u241 =>
      ∀ v244 : Int32, v244 = x5 + (1 : Int32) →
      R v244 u241))
def mw_laysLines_L212 (K24 : Int32 → MS → Prop) (Post : MS → Prop) (x1 : Int32) (x2 : Int32) (x3 : Int32) : Nat → Int32 → MS → Prop
  | 0 => fun _ _ => False
  | n + 1 => fun x5 u => mw_laysLines_L212_S K24 Post x1 x2 x3 (mw_laysLines_L212 K24 Post x1 x2 x3 n) x5 u
def mw_laysLines_L123_S (K24 : Int32 → MS → Prop) (K94 : Int32 → MS → Prop) (Post : MS → Prop) (x1 : Int32) (x2 : Int32) (x3 : Int32) (x4 : Int32) (x5 : Int32) (R : Int32 → MS → Prop) (x6 : Int32) (u : MS) : Prop :=
  (x5 ≤ x6 →
    ((jm_i u 1 3) = 0 →
      ∀ v199 : Int32, v199 = (x4 + x5) →
      mw_newLine u (fun u202 =>
        K94 v199 u202)) ∧
    (¬ (jm_i u 1 3) = 0 →
      mw_laysCell (jm_i u 1 3) u (fun u181 =>
        ∀ u191 : MS, u191 = jm_s u181 0 29 ((jm_i u181 0 29) + (1 : Int32)) →
        ∀ v199 : Int32, v199 = (x4 + x5) →
        mw_newLine u191 (fun u202 =>
          K94 v199 u202)))) ∧
  (¬ x5 ≤ x6 →
    vp_in ((1850 : Int32) + x2) 19800 ∧
    vp_in ((((600 : Int32) + (jm_i u 1 ((1850 : Int32) + x2).toNatClampNeg)) + x4) + x6) 19800 ∧
    mw_laysCell (jm_i u 1 ((((600 : Int32) + (jm_i u 1 ((1850 : Int32) + x2).toNatClampNeg)) + x4) + x6).toNatClampNeg) u (fun u156 =>
      ∀ v159 : Int32, v159 = x6 + (1 : Int32) →
      R v159 u156))
def mw_laysLines_L123 (K24 : Int32 → MS → Prop) (K94 : Int32 → MS → Prop) (Post : MS → Prop) (x1 : Int32) (x2 : Int32) (x3 : Int32) (x4 : Int32) (x5 : Int32) : Nat → Int32 → MS → Prop
  | 0 => fun _ _ => False
  | n + 1 => fun x6 u => mw_laysLines_L123_S K24 K94 Post x1 x2 x3 x4 x5 (mw_laysLines_L123 K24 K94 Post x1 x2 x3 x4 x5 n) x6 u
def mw_laysLines_L94_S (K24 : Int32 → MS → Prop) (Post : MS → Prop) (x1 : Int32) (x2 : Int32) (x3 : Int32) (R : Int32 → MS → Prop) (x4 : Int32) (u : MS) : Prop :=
  ((x3 - x4) ≤ x1 →
    ∃ n, mw_laysLines_L212 K24 Post x1 x2 x3 n x4 u) ∧
  (¬ (x3 - x4) ≤ x1 →
    (¬ (jm_i u 1 3) = 0 →
      ∀ v118 : Int32, v118 = (x1 - (1 : Int32)) →
      ∃ n, mw_laysLines_L123 K24 R Post x1 x2 x3 x4 v118 n (0 : Int32) u) ∧
    ((jm_i u 1 3) = 0 →
      ∃ n, mw_laysLines_L123 K24 R Post x1 x2 x3 x4 x1 n (0 : Int32) u))
def mw_laysLines_L94 (K24 : Int32 → MS → Prop) (Post : MS → Prop) (x1 : Int32) (x2 : Int32) (x3 : Int32) : Nat → Int32 → MS → Prop
  | 0 => fun _ _ => False
  | n + 1 => fun x4 u => mw_laysLines_L94_S K24 Post x1 x2 x3 (mw_laysLines_L94 K24 Post x1 x2 x3 n) x4 u
def mw_laysLines_B79 (K24 : Int32 → MS → Prop) (Post : MS → Prop) (x1 : Int32) (x2 : Int32) (x3 : Int32) (u : MS) : Prop :=
  vp_in x2 160 ∧
  ∀ u90 : MS, u90 = jm_s u 10 x2.toNatClampNeg ((jm_i u 0 27) - (1 : Int32)) →
  ∃ n, mw_laysLines_L94 K24 Post x1 x2 x3 n (0 : Int32) u90
def mw_laysLines_L24_S (Post : MS → Prop) (x1 : Int32) (R : Int32 → MS → Prop) (x2 : Int32) (u : MS) : Prop :=
  ((jm_i u 1 9) ≤ x2 →
    Post u) ∧
  (¬ (jm_i u 1 9) ≤ x2 →
    mw_pieceMany x2 u (fun r37 u37 =>
      ((jm_i u37 0 27) = 0 →
        mw_newLine u37 (fun u68 =>
          mw_laysLines_B79 R Post x1 x2 r37 u68)) ∧
      (¬ (jm_i u37 0 27) = 0 →
        vp_in ((jm_i u37 0 27) - (1 : Int32)) 1300 ∧
        ((((jm_i u37 9 ((jm_i u37 0 27) - (1 : Int32)).toNatClampNeg) + (1 : Int32)) + r37) ≤ x1 →
          mw_laysCell (0 : Int32) u37 (fun u76 =>
            mw_laysLines_B79 R Post x1 x2 r37 u76)) ∧
        (¬ (((jm_i u37 9 ((jm_i u37 0 27) - (1 : Int32)).toNatClampNeg) + (1 : Int32)) + r37) ≤ x1 →
          mw_newLine u37 (fun u68 =>
            mw_laysLines_B79 R Post x1 x2 r37 u68)))))
def mw_laysLines_L24 (Post : MS → Prop) (x1 : Int32) : Nat → Int32 → MS → Prop
  | 0 => fun _ _ => False
  | n + 1 => fun x2 u => mw_laysLines_L24_S Post x1 (mw_laysLines_L24 Post x1 n) x2 u
/-- RaisedPressModel.laysLines()V -/
def mw_laysLines (u : MS) (Post : MS → Prop) : Prop :=
  ∀ u2 : MS, u2 = jm_s u 0 27 (0 : Int32) →
  ∀ u7 : MS, u7 = jm_s u2 0 28 (0 : Int32) →
  ∀ u12 : MS, u12 = jm_s u7 0 29 (0 : Int32) →
  ∀ v21 : Int32, v21 = (jm_i u12 1 4) →
  ∃ n, mw_laysLines_L24 Post v21 n (0 : Int32) u12
set_option maxHeartbeats 4000000 in
set_option maxRecDepth 100000 in
theorem tmw_laysLines_L212 {X : JC} {D : va_G} {dA ad : Nat → Nat} {K24 : Int32 → MS → Prop} {Post : MS → Prop} {x1 : Int32} {x2 : Int32} {x3 : Int32} (hX : JX X yX7_laysLines.cls cX7_laysLines 7 (Option.none : Option Jvm.ClassFile.FieldType) 1 21 0 0) (hK : KM D dA (jj_s X)) (hD : MD ad) (hK24 : ∀ (y2 : Int32) (u : MS), K24 y2 u → JJ X (AM ad) (jj_Q X (va_Qv Post (jm_B D dA ad) (AM ad)) 0 0 (AM ad)) 7 (MW D dA ad u) 0 0 24 [(0, .ref (ad 0)), (1, .int x1), (2, .int y2)] []) : ∀ (n : Nat) (x5 : Int32) (u : MS), mw_laysLines_L212 K24 Post x1 x2 x3 n x5 u → JJ X (AM ad) (jj_Q X (va_Qv Post (jm_B D dA ad) (AM ad)) 0 0 (AM ad)) 7 (MW D dA ad u) 0 0 212 [(0, .ref (ad 0)), (1, .int x1), (2, .int x2), (3, .int x3), (5, .int x5)] [] := by
  intro n
  induction n with
  | zero =>
    intro x5 u h
    exact h.elim
  | succ n ih =>
    intro x5 u h
    have h : mw_laysLines_L212_S K24 Post x1 x2 x3 (mw_laysLines_L212 K24 Post x1 x2 x3 n) x5 u := h
    unfold mw_laysLines_L212_S at h
    refine jj_iload hX dX7_laysLines_212 4 rfl 214 rfl ?_
    refine jj_iload_n hX dX7_laysLines_214 3 rfl 215 rfl ?_
    refine jj_icmp_ge hX dX7_laysLines_215 250 218 (by decide) rfl (fun c215 => ?_) (fun c215 => ?_)
    · have h := h.1 c215
      refine jt_26 hX hK dX7_laysLines_250 0 rfl dX7_laysLines_251 q1510 254 rfl rfl ?_
      refine jj_iload_n hX dX7_laysLines_254 2 rfl 255 rfl ?_
      refine jt_27 hX hK dX7_laysLines_255 0 rfl dX7_laysLines_256 q1511 259 rfl rfl ?_
      refine jj_iconst hX dX7_laysLines_259 ci_1 260 rfl ?_
      refine jj_isub hX dX7_laysLines_260 261 rfl ?_
      obtain ⟨hi261, h⟩ := h
      refine jw_11 hX hK hD _ rfl hi261 dX7_laysLines_261 262 rfl (fun u261 e261 => ?_)
      have h := h u261 e261
      obtain ⟨v262, e262⟩ : ∃ y : Int32, y = x2 + (1 : Int32) := ⟨_, rfl⟩
      have h := h v262 e262
      refine jj_iinc (v := v262) (lv2 := [(0, .ref (ad 0)), (1, .int x1), (2, .int v262), (3, .int x3), (5, .int x5)]) hX dX7_laysLines_262 2 rfl (by rw [e262, ci_1]) (Nat.le_of_ble_eq_true rfl) [1, 2, 0, 3, 4] rfl 265 rfl ?_
      refine jj_goto hX dX7_laysLines_265 24 (by decide) ?_
      refine jj_sub (lv2 := [(0, .ref (ad 0)), (1, .int x1), (2, .int v262)]) [0, 1, 2] rfl ?_
      exact hK24 _ _ h
    · have h := h.2 c215
      refine jj_aload_n hX dX7_laysLines_218 0 rfl 219 rfl ?_
      refine jt_0 hX hK dX7_laysLines_219 0 rfl dX7_laysLines_220 q1484 223 rfl rfl ?_
      refine jj_sipush hX dX7_laysLines_223 cs_600 226 rfl ?_
      refine jt_0 hX hK dX7_laysLines_226 0 rfl dX7_laysLines_227 q1484 230 rfl rfl ?_
      refine jj_sipush hX dX7_laysLines_230 cs_1850 233 rfl ?_
      refine jj_iload_n hX dX7_laysLines_233 2 rfl 234 rfl ?_
      refine jj_iadd hX dX7_laysLines_234 235 rfl ?_
      obtain ⟨hi235, h⟩ := h
      refine jr_1 hX hK _ rfl hi235 dX7_laysLines_235 236 rfl ?_
      refine jj_iadd hX dX7_laysLines_236 237 rfl ?_
      refine jj_iload hX dX7_laysLines_237 4 rfl 239 rfl ?_
      refine jj_iadd hX dX7_laysLines_239 240 rfl ?_
      obtain ⟨hi240, h⟩ := h
      refine jr_1 hX hK _ rfl hi240 dX7_laysLines_240 241 rfl ?_
      refine kmw_laysCell hX hK hD q1888 (Nat.le_of_ble_eq_true rfl) (Nat.le_of_ble_eq_true rfl) (Nat.zero_le _) (Nat.zero_le _) (Nat.le_of_ble_eq_true rfl) dX7_laysLines_241 244 rfl h (fun u241 h => ?_)
      obtain ⟨v244, e244⟩ : ∃ y : Int32, y = x5 + (1 : Int32) := ⟨_, rfl⟩
      have h := h v244 e244
      refine jj_iinc (v := v244) (lv2 := [(0, .ref (ad 0)), (1, .int x1), (2, .int x2), (3, .int x3), (5, .int v244)]) hX dX7_laysLines_244 4 rfl (by rw [e244, ci_1]) (Nat.le_of_ble_eq_true rfl) [1, 2, 3, 4, 0] rfl 247 rfl ?_
      refine jj_goto hX dX7_laysLines_247 212 (by decide) ?_
      exact ih _ _ h
set_option maxHeartbeats 4000000 in
set_option maxRecDepth 100000 in
theorem tmw_laysLines_L123 {X : JC} {D : va_G} {dA ad : Nat → Nat} {K24 : Int32 → MS → Prop} {K94 : Int32 → MS → Prop} {Post : MS → Prop} {x1 : Int32} {x2 : Int32} {x3 : Int32} {x4 : Int32} {x5 : Int32} (hX : JX X yX7_laysLines.cls cX7_laysLines 7 (Option.none : Option Jvm.ClassFile.FieldType) 1 21 0 0) (hK : KM D dA (jj_s X)) (hD : MD ad) (hK24 : ∀ (y2 : Int32) (u : MS), K24 y2 u → JJ X (AM ad) (jj_Q X (va_Qv Post (jm_B D dA ad) (AM ad)) 0 0 (AM ad)) 7 (MW D dA ad u) 0 0 24 [(0, .ref (ad 0)), (1, .int x1), (2, .int y2)] []) (hK94 : ∀ (y4 : Int32) (u : MS), K94 y4 u → JJ X (AM ad) (jj_Q X (va_Qv Post (jm_B D dA ad) (AM ad)) 0 0 (AM ad)) 7 (MW D dA ad u) 0 0 94 [(0, .ref (ad 0)), (1, .int x1), (2, .int x2), (3, .int x3), (4, .int y4)] []) : ∀ (n : Nat) (x6 : Int32) (u : MS), mw_laysLines_L123 K24 K94 Post x1 x2 x3 x4 x5 n x6 u → JJ X (AM ad) (jj_Q X (va_Qv Post (jm_B D dA ad) (AM ad)) 0 0 (AM ad)) 7 (MW D dA ad u) 0 0 123 [(0, .ref (ad 0)), (1, .int x1), (2, .int x2), (3, .int x3), (4, .int x4), (5, .int x5), (6, .int x6)] [] := by
  intro n
  induction n with
  | zero =>
    intro x6 u h
    exact h.elim
  | succ n ih =>
    intro x6 u h
    have h : mw_laysLines_L123_S K24 K94 Post x1 x2 x3 x4 x5 (mw_laysLines_L123 K24 K94 Post x1 x2 x3 x4 x5 n) x6 u := h
    unfold mw_laysLines_L123_S at h
    refine jj_iload hX dX7_laysLines_123 6 rfl 125 rfl ?_
    refine jj_iload hX dX7_laysLines_125 5 rfl 127 rfl ?_
    refine jj_icmp_ge hX dX7_laysLines_127 165 130 (by decide) rfl (fun c127 => ?_) (fun c127 => ?_)
    · have h := h.1 c127
      refine jt_0 hX hK dX7_laysLines_165 0 rfl dX7_laysLines_166 q1484 169 rfl rfl ?_
      refine jj_iconst hX dX7_laysLines_169 ci_3 170 rfl ?_
      refine jr_1 hX hK 3 kc_3 vi_1_3 dX7_laysLines_170 171 rfl ?_
      refine jj_if_eq hX dX7_laysLines_171 194 174 (by decide) rfl (fun c171 => ?_) (fun c171 => ?_)
      · have h := h.1 c171
        refine jj_iload hX dX7_laysLines_194 4 rfl 196 rfl ?_
        refine jj_iload hX dX7_laysLines_196 5 rfl 198 rfl ?_
        refine jj_iadd hX dX7_laysLines_198 199 rfl ?_
        refine jj_topi (fun v199 e199 => ?_)
        have h := h v199 e199
        refine jj_istore (lv2 := [(0, .ref (ad 0)), (1, .int x1), (2, .int x2), (3, .int x3), (4, .int v199)]) hX dX7_laysLines_199 (Nat.le_of_ble_eq_true rfl) [1, 2, 3, 4, 0] rfl 201 rfl ?_
        refine jj_aload_n hX dX7_laysLines_201 0 rfl 202 rfl ?_
        refine kmw_newLine hX hK hD q1884 (Nat.le_of_ble_eq_true rfl) (Nat.le_of_ble_eq_true rfl) (Nat.zero_le _) (Nat.zero_le _) (Nat.le_of_ble_eq_true rfl) dX7_laysLines_202 205 rfl h (fun u202 h => ?_)
        refine jj_goto hX dX7_laysLines_205 94 (by decide) ?_
        exact hK94 _ _ h
      · have h := h.2 c171
        refine jj_aload_n hX dX7_laysLines_174 0 rfl 175 rfl ?_
        refine jt_0 hX hK dX7_laysLines_175 0 rfl dX7_laysLines_176 q1484 179 rfl rfl ?_
        refine jj_iconst hX dX7_laysLines_179 ci_3 180 rfl ?_
        refine jr_1 hX hK 3 kc_3 vi_1_3 dX7_laysLines_180 181 rfl ?_
        refine kmw_laysCell hX hK hD q1888 (Nat.le_of_ble_eq_true rfl) (Nat.le_of_ble_eq_true rfl) (Nat.zero_le _) (Nat.zero_le _) (Nat.le_of_ble_eq_true rfl) dX7_laysLines_181 184 rfl h (fun u181 h => ?_)
        refine jj_aload_n hX dX7_laysLines_184 0 rfl 185 rfl ?_
        refine jj_dup hX dX7_laysLines_185 rfl 186 rfl ?_
        refine jg_29 hX hK dX7_laysLines_186 q1513 189 rfl ?_
        refine jj_iconst hX dX7_laysLines_189 ci_1 190 rfl ?_
        refine jj_iadd hX dX7_laysLines_190 191 rfl ?_
        refine jp_29 hX hK hD dX7_laysLines_191 q1513 194 rfl (fun u191 e191 => ?_)
        have h := h u191 e191
        refine jj_iload hX dX7_laysLines_194 4 rfl 196 rfl ?_
        refine jj_iload hX dX7_laysLines_196 5 rfl 198 rfl ?_
        refine jj_iadd hX dX7_laysLines_198 199 rfl ?_
        refine jj_topi (fun v199 e199 => ?_)
        have h := h v199 e199
        refine jj_istore (lv2 := [(0, .ref (ad 0)), (1, .int x1), (2, .int x2), (3, .int x3), (4, .int v199)]) hX dX7_laysLines_199 (Nat.le_of_ble_eq_true rfl) [1, 2, 3, 4, 0] rfl 201 rfl ?_
        refine jj_aload_n hX dX7_laysLines_201 0 rfl 202 rfl ?_
        refine kmw_newLine hX hK hD q1884 (Nat.le_of_ble_eq_true rfl) (Nat.le_of_ble_eq_true rfl) (Nat.zero_le _) (Nat.zero_le _) (Nat.le_of_ble_eq_true rfl) dX7_laysLines_202 205 rfl h (fun u202 h => ?_)
        refine jj_goto hX dX7_laysLines_205 94 (by decide) ?_
        exact hK94 _ _ h
    · have h := h.2 c127
      refine jj_aload_n hX dX7_laysLines_130 0 rfl 131 rfl ?_
      refine jt_0 hX hK dX7_laysLines_131 0 rfl dX7_laysLines_132 q1484 135 rfl rfl ?_
      refine jj_sipush hX dX7_laysLines_135 cs_600 138 rfl ?_
      refine jt_0 hX hK dX7_laysLines_138 0 rfl dX7_laysLines_139 q1484 142 rfl rfl ?_
      refine jj_sipush hX dX7_laysLines_142 cs_1850 145 rfl ?_
      refine jj_iload_n hX dX7_laysLines_145 2 rfl 146 rfl ?_
      refine jj_iadd hX dX7_laysLines_146 147 rfl ?_
      obtain ⟨hi147, h⟩ := h
      refine jr_1 hX hK _ rfl hi147 dX7_laysLines_147 148 rfl ?_
      refine jj_iadd hX dX7_laysLines_148 149 rfl ?_
      refine jj_iload hX dX7_laysLines_149 4 rfl 151 rfl ?_
      refine jj_iadd hX dX7_laysLines_151 152 rfl ?_
      refine jj_iload hX dX7_laysLines_152 6 rfl 154 rfl ?_
      refine jj_iadd hX dX7_laysLines_154 155 rfl ?_
      obtain ⟨hi155, h⟩ := h
      refine jr_1 hX hK _ rfl hi155 dX7_laysLines_155 156 rfl ?_
      refine kmw_laysCell hX hK hD q1888 (Nat.le_of_ble_eq_true rfl) (Nat.le_of_ble_eq_true rfl) (Nat.zero_le _) (Nat.zero_le _) (Nat.le_of_ble_eq_true rfl) dX7_laysLines_156 159 rfl h (fun u156 h => ?_)
      obtain ⟨v159, e159⟩ : ∃ y : Int32, y = x6 + (1 : Int32) := ⟨_, rfl⟩
      have h := h v159 e159
      refine jj_iinc (v := v159) (lv2 := [(0, .ref (ad 0)), (1, .int x1), (2, .int x2), (3, .int x3), (4, .int x4), (5, .int x5), (6, .int v159)]) hX dX7_laysLines_159 6 rfl (by rw [e159, ci_1]) (Nat.le_of_ble_eq_true rfl) [1, 2, 3, 4, 5, 6, 0] rfl 162 rfl ?_
      refine jj_goto hX dX7_laysLines_162 123 (by decide) ?_
      exact ih _ _ h
set_option maxHeartbeats 4000000 in
set_option maxRecDepth 100000 in
theorem tmw_laysLines_L94 {X : JC} {D : va_G} {dA ad : Nat → Nat} {K24 : Int32 → MS → Prop} {Post : MS → Prop} {x1 : Int32} {x2 : Int32} {x3 : Int32} (hX : JX X yX7_laysLines.cls cX7_laysLines 7 (Option.none : Option Jvm.ClassFile.FieldType) 1 21 0 0) (hK : KM D dA (jj_s X)) (hD : MD ad) (hK24 : ∀ (y2 : Int32) (u : MS), K24 y2 u → JJ X (AM ad) (jj_Q X (va_Qv Post (jm_B D dA ad) (AM ad)) 0 0 (AM ad)) 7 (MW D dA ad u) 0 0 24 [(0, .ref (ad 0)), (1, .int x1), (2, .int y2)] []) : ∀ (n : Nat) (x4 : Int32) (u : MS), mw_laysLines_L94 K24 Post x1 x2 x3 n x4 u → JJ X (AM ad) (jj_Q X (va_Qv Post (jm_B D dA ad) (AM ad)) 0 0 (AM ad)) 7 (MW D dA ad u) 0 0 94 [(0, .ref (ad 0)), (1, .int x1), (2, .int x2), (3, .int x3), (4, .int x4)] [] := by
  intro n
  induction n with
  | zero =>
    intro x4 u h
    exact h.elim
  | succ n ih =>
    intro x4 u h
    have h : mw_laysLines_L94_S K24 Post x1 x2 x3 (mw_laysLines_L94 K24 Post x1 x2 x3 n) x4 u := h
    unfold mw_laysLines_L94_S at h
    refine jj_iload_n hX dX7_laysLines_94 3 rfl 95 rfl ?_
    refine jj_iload hX dX7_laysLines_95 4 rfl 97 rfl ?_
    refine jj_isub hX dX7_laysLines_97 98 rfl ?_
    refine jj_iload_n hX dX7_laysLines_98 1 rfl 99 rfl ?_
    refine jj_icmp_le hX dX7_laysLines_99 208 102 (by decide) rfl (fun c99 => ?_) (fun c99 => ?_)
    · have h := h.1 c99
      refine jj_iload hX dX7_laysLines_208 4 rfl 210 rfl ?_
      refine jj_istore (lv2 := [(0, .ref (ad 0)), (1, .int x1), (2, .int x2), (3, .int x3), (5, .int x4)]) hX dX7_laysLines_210 (Nat.le_of_ble_eq_true rfl) [1, 2, 3, 4, 0] rfl 212 rfl ?_
      obtain ⟨n9, h⟩ := h
      exact tmw_laysLines_L212 hX hK hD hK24 n9 _ _ h
    · have h := h.2 c99
      refine jt_0 hX hK dX7_laysLines_102 0 rfl dX7_laysLines_103 q1484 106 rfl rfl ?_
      refine jj_iconst hX dX7_laysLines_106 ci_3 107 rfl ?_
      refine jr_1 hX hK 3 kc_3 vi_1_3 dX7_laysLines_107 108 rfl ?_
      refine jj_if_ne hX dX7_laysLines_108 115 111 (by decide) rfl (fun c108 => ?_) (fun c108 => ?_)
      · have h := h.1 c108
        refine jj_iload_n hX dX7_laysLines_115 1 rfl 116 rfl ?_
        refine jj_iconst hX dX7_laysLines_116 ci_1 117 rfl ?_
        refine jj_isub hX dX7_laysLines_117 118 rfl ?_
        refine jj_topi (fun v118 e118 => ?_)
        have h := h v118 e118
        refine jj_istore (lv2 := [(0, .ref (ad 0)), (1, .int x1), (2, .int x2), (3, .int x3), (4, .int x4), (5, .int v118)]) hX dX7_laysLines_118 (Nat.le_of_ble_eq_true rfl) [1, 2, 3, 4, 5, 0] rfl 120 rfl ?_
        refine jj_iconst hX dX7_laysLines_120 ci_0 121 rfl ?_
        refine jj_istore (lv2 := [(0, .ref (ad 0)), (1, .int x1), (2, .int x2), (3, .int x3), (4, .int x4), (5, .int v118), (6, .int (0 : Int32))]) hX dX7_laysLines_121 (Nat.le_of_ble_eq_true rfl) [1, 2, 3, 4, 5, 6, 0] rfl 123 rfl ?_
        obtain ⟨n9, h⟩ := h
        exact tmw_laysLines_L123 hX hK hD hK24 ih n9 _ _ h
      · have h := h.2 c108
        refine jj_iload_n hX dX7_laysLines_111 1 rfl 112 rfl ?_
        refine jj_goto hX dX7_laysLines_112 118 (by decide) ?_
        refine jj_istore (lv2 := [(0, .ref (ad 0)), (1, .int x1), (2, .int x2), (3, .int x3), (4, .int x4), (5, .int x1)]) hX dX7_laysLines_118 (Nat.le_of_ble_eq_true rfl) [1, 2, 3, 4, 5, 0] rfl 120 rfl ?_
        refine jj_iconst hX dX7_laysLines_120 ci_0 121 rfl ?_
        refine jj_istore (lv2 := [(0, .ref (ad 0)), (1, .int x1), (2, .int x2), (3, .int x3), (4, .int x4), (5, .int x1), (6, .int (0 : Int32))]) hX dX7_laysLines_121 (Nat.le_of_ble_eq_true rfl) [1, 2, 3, 4, 5, 6, 0] rfl 123 rfl ?_
        obtain ⟨n9, h⟩ := h
        exact tmw_laysLines_L123 hX hK hD hK24 ih n9 _ _ h
set_option maxHeartbeats 4000000 in
set_option maxRecDepth 100000 in
theorem tmw_laysLines_B79 {X : JC} {D : va_G} {dA ad : Nat → Nat} {K24 : Int32 → MS → Prop} {Post : MS → Prop} {x1 : Int32} {x2 : Int32} {x3 : Int32} {u : MS} (hX : JX X yX7_laysLines.cls cX7_laysLines 7 (Option.none : Option Jvm.ClassFile.FieldType) 1 21 0 0) (hK : KM D dA (jj_s X)) (hD : MD ad) (hK24 : ∀ (y2 : Int32) (u : MS), K24 y2 u → JJ X (AM ad) (jj_Q X (va_Qv Post (jm_B D dA ad) (AM ad)) 0 0 (AM ad)) 7 (MW D dA ad u) 0 0 24 [(0, .ref (ad 0)), (1, .int x1), (2, .int y2)] []) (h : mw_laysLines_B79 K24 Post x1 x2 x3  u) : JJ X (AM ad) (jj_Q X (va_Qv Post (jm_B D dA ad) (AM ad)) 0 0 (AM ad)) 7 (MW D dA ad u) 0 0 79 [(0, .ref (ad 0)), (1, .int x1), (2, .int x2), (3, .int x3)] [] := by
  unfold mw_laysLines_B79 at h
  refine jt_25 hX hK dX7_laysLines_79 0 rfl dX7_laysLines_80 q1509 83 rfl rfl ?_
  refine jj_iload_n hX dX7_laysLines_83 2 rfl 84 rfl ?_
  refine jt_27 hX hK dX7_laysLines_84 0 rfl dX7_laysLines_85 q1511 88 rfl rfl ?_
  refine jj_iconst hX dX7_laysLines_88 ci_1 89 rfl ?_
  refine jj_isub hX dX7_laysLines_89 90 rfl ?_
  obtain ⟨hi90, h⟩ := h
  refine jw_10 hX hK hD _ rfl hi90 dX7_laysLines_90 91 rfl (fun u90 e90 => ?_)
  have h := h u90 e90
  refine jj_iconst hX dX7_laysLines_91 ci_0 92 rfl ?_
  refine jj_istore (lv2 := [(0, .ref (ad 0)), (1, .int x1), (2, .int x2), (3, .int x3), (4, .int (0 : Int32))]) hX dX7_laysLines_92 (Nat.le_of_ble_eq_true rfl) [1, 2, 3, 4, 0] rfl 94 rfl ?_
  obtain ⟨n9, h⟩ := h
  exact tmw_laysLines_L94 hX hK hD hK24 n9 _ _ h
set_option maxHeartbeats 4000000 in
set_option maxRecDepth 100000 in
theorem tmw_laysLines_L24 {X : JC} {D : va_G} {dA ad : Nat → Nat} {Post : MS → Prop} {x1 : Int32} (hX : JX X yX7_laysLines.cls cX7_laysLines 7 (Option.none : Option Jvm.ClassFile.FieldType) 1 21 0 0) (hK : KM D dA (jj_s X)) (hD : MD ad) : ∀ (n : Nat) (x2 : Int32) (u : MS), mw_laysLines_L24 Post x1 n x2 u → JJ X (AM ad) (jj_Q X (va_Qv Post (jm_B D dA ad) (AM ad)) 0 0 (AM ad)) 7 (MW D dA ad u) 0 0 24 [(0, .ref (ad 0)), (1, .int x1), (2, .int x2)] [] := by
  intro n
  induction n with
  | zero =>
    intro x2 u h
    exact h.elim
  | succ n ih =>
    intro x2 u h
    have h : mw_laysLines_L24_S Post x1 (mw_laysLines_L24 Post x1 n) x2 u := h
    unfold mw_laysLines_L24_S at h
    refine jj_iload_n hX dX7_laysLines_24 2 rfl 25 rfl ?_
    refine jt_0 hX hK dX7_laysLines_25 0 rfl dX7_laysLines_26 q1484 29 rfl rfl ?_
    refine jj_bipush hX dX7_laysLines_29 cb_9 31 rfl ?_
    refine jr_1 hX hK 9 kc_9 vi_1_9 dX7_laysLines_31 32 rfl ?_
    refine jj_icmp_ge hX dX7_laysLines_32 268 35 (by decide) rfl (fun c32 => ?_) (fun c32 => ?_)
    · have h := h.1 c32
      exact jj_retv hX dX7_laysLines_268 (Nat.le_refl 0) (Nat.le_refl 0) jm_hB h
    · have h := h.2 c32
      refine jj_aload_n hX dX7_laysLines_35 0 rfl 36 rfl ?_
      refine jj_iload_n hX dX7_laysLines_36 2 rfl 37 rfl ?_
      refine kmw_pieceMany hX hK hD q1880 (Nat.le_of_ble_eq_true rfl) (Nat.le_of_ble_eq_true rfl) (Nat.zero_le _) (Nat.zero_le _) (Nat.le_of_ble_eq_true rfl) dX7_laysLines_37 40 rfl h (fun r37 u37 h => ?_)
      refine jj_istore_n (lv2 := [(0, .ref (ad 0)), (1, .int x1), (2, .int x2), (3, .int r37)]) hX dX7_laysLines_40 (Nat.le_of_ble_eq_true rfl) [1, 2, 3, 0] rfl 41 rfl ?_
      refine jt_27 hX hK dX7_laysLines_41 0 rfl dX7_laysLines_42 q1511 45 rfl rfl ?_
      refine jj_if_eq hX dX7_laysLines_45 67 48 (by decide) rfl (fun c45 => ?_) (fun c45 => ?_)
      · have h := h.1 c45
        refine jj_aload_n hX dX7_laysLines_67 0 rfl 68 rfl ?_
        refine kmw_newLine hX hK hD q1884 (Nat.le_of_ble_eq_true rfl) (Nat.le_of_ble_eq_true rfl) (Nat.zero_le _) (Nat.zero_le _) (Nat.le_of_ble_eq_true rfl) dX7_laysLines_68 71 rfl h (fun u68 h => ?_)
        refine jj_goto hX dX7_laysLines_71 79 (by decide) ?_
        exact tmw_laysLines_B79 hX hK hD ih h
      · have h := h.2 c45
        refine jt_24 hX hK dX7_laysLines_48 0 rfl dX7_laysLines_49 q1508 52 rfl rfl ?_
        refine jt_27 hX hK dX7_laysLines_52 0 rfl dX7_laysLines_53 q1511 56 rfl rfl ?_
        refine jj_iconst hX dX7_laysLines_56 ci_1 57 rfl ?_
        refine jj_isub hX dX7_laysLines_57 58 rfl ?_
        obtain ⟨hi58, h⟩ := h
        refine jr_9 hX hK _ rfl hi58 dX7_laysLines_58 59 rfl ?_
        refine jj_iconst hX dX7_laysLines_59 ci_1 60 rfl ?_
        refine jj_iadd hX dX7_laysLines_60 61 rfl ?_
        refine jj_iload_n hX dX7_laysLines_61 3 rfl 62 rfl ?_
        refine jj_iadd hX dX7_laysLines_62 63 rfl ?_
        refine jj_iload_n hX dX7_laysLines_63 1 rfl 64 rfl ?_
        refine jj_icmp_le hX dX7_laysLines_64 74 67 (by decide) rfl (fun c64 => ?_) (fun c64 => ?_)
        · have h := h.1 c64
          refine jj_aload_n hX dX7_laysLines_74 0 rfl 75 rfl ?_
          refine jj_iconst hX dX7_laysLines_75 ci_0 76 rfl ?_
          refine kmw_laysCell hX hK hD q1888 (Nat.le_of_ble_eq_true rfl) (Nat.le_of_ble_eq_true rfl) (Nat.zero_le _) (Nat.zero_le _) (Nat.le_of_ble_eq_true rfl) dX7_laysLines_76 79 rfl h (fun u76 h => ?_)
          exact tmw_laysLines_B79 hX hK hD ih h
        · have h := h.2 c64
          refine jj_aload_n hX dX7_laysLines_67 0 rfl 68 rfl ?_
          refine kmw_newLine hX hK hD q1884 (Nat.le_of_ble_eq_true rfl) (Nat.le_of_ble_eq_true rfl) (Nat.zero_le _) (Nat.zero_le _) (Nat.le_of_ble_eq_true rfl) dX7_laysLines_68 71 rfl h (fun u68 h => ?_)
          refine jj_goto hX dX7_laysLines_71 79 (by decide) ?_
          exact tmw_laysLines_B79 hX hK hD ih h
set_option maxHeartbeats 4000000 in
set_option maxRecDepth 100000 in
theorem mmw_laysLines (l : Launch) (D : va_G) (dA ad : Nat → Nat) (hD : MD ad) (u : MS) (Post : MS → Prop) (h : mw_laysLines  u Post) : Met l yX7_laysLines (ws_ yX7_laysLines cX7_laysLines 7 (Option.none : Option Jvm.ClassFile.FieldType)) (jm_rm 1 21) (jm_Pc D dA ad u []) (va_Qv Post (jm_B D dA ad) (AM ad)) 0 0 (AM ad) := by
  refine jm_start [] [(0, .ref (ad 0))] (by decide) (Nat.le_of_ble_eq_true rfl) rfl (fun X hX hK => ?_)
  unfold mw_laysLines at h
  refine jj_aload_n hX dX7_laysLines_0 0 rfl 1 rfl ?_
  refine jj_iconst hX dX7_laysLines_1 ci_0 2 rfl ?_
  refine jp_27 hX hK hD dX7_laysLines_2 q1511 5 rfl (fun u2 e2 => ?_)
  have h := h u2 e2
  refine jj_aload_n hX dX7_laysLines_5 0 rfl 6 rfl ?_
  refine jj_iconst hX dX7_laysLines_6 ci_0 7 rfl ?_
  refine jp_28 hX hK hD dX7_laysLines_7 q1512 10 rfl (fun u7 e7 => ?_)
  have h := h u7 e7
  refine jj_aload_n hX dX7_laysLines_10 0 rfl 11 rfl ?_
  refine jj_iconst hX dX7_laysLines_11 ci_0 12 rfl ?_
  refine jp_29 hX hK hD dX7_laysLines_12 q1513 15 rfl (fun u12 e12 => ?_)
  have h := h u12 e12
  refine jt_0 hX hK dX7_laysLines_15 0 rfl dX7_laysLines_16 q1484 19 rfl rfl ?_
  refine jj_iconst hX dX7_laysLines_19 ci_4 20 rfl ?_
  refine jr_1 hX hK 4 kc_4 vi_1_4 dX7_laysLines_20 21 rfl ?_
  refine jj_topi (fun v21 e21 => ?_)
  have h := h v21 e21
  refine jj_istore_n (lv2 := [(0, .ref (ad 0)), (1, .int v21)]) hX dX7_laysLines_21 (Nat.le_of_ble_eq_true rfl) [1, 0] rfl 22 rfl ?_
  refine jj_iconst hX dX7_laysLines_22 ci_0 23 rfl ?_
  refine jj_istore_n (lv2 := [(0, .ref (ad 0)), (1, .int v21), (2, .int (0 : Int32))]) hX dX7_laysLines_23 (Nat.le_of_ble_eq_true rfl) [1, 2, 0] rfl 24 rfl ?_
  obtain ⟨n9, h⟩ := h
  exact tmw_laysLines_L24 hX hK hD n9 _ _ h
theorem hd_mw_laysLines : yX7_laysLines.cls = RX7 ∧ yX7_laysLines.cls ≠ "java/lang/invoke/MethodHandle" ∧ yX7_laysLines.cls ≠ "java/lang/invoke/VarHandle" ∧ (parseMethodDescriptor yX7_laysLines.desc).map (fun d => d.parameters.length) = some 0 := by decide +kernel
theorem kmw_laysLines {X : JC} {Q : State → Prop} {nL k n pc : Nat} {lv : List (Nat × Value)} {st : List Value} {own : String} {cc : ByteArray} {ret : Option FieldType} {F LL mc ms ix : Nat} {D : va_G} {dA ad : Nat → Nat} {u : MS} {Post : MS → Prop} (hX : JX X own cc nL ret F LL mc ms) (hK : KM D dA (jj_s X)) (hD : MD ad) (hlk : (Cond.methodLink own ix yX7_laysLines) ∈ lw_all) (hF : 1 + 1 ≤ F) (hL : 8 + (7 + 11) + 21 ≤ LL) (hk : k ≤ mc) (hk2 : n ≤ ms) (hw : (st.map fun v => v.category).sum ≤ 8) (d : decode cc pc = .ok (.invokevirtual ix, 3)) (q : Nat) (hq : pc + 3 = q) (h : mw_laysLines  u Post) (kk : ∀ u2 : MS, Post u2 → JJ X (AM ad) Q nL (MW D dA ad u2) k n q lv st) : JJ X (AM ad) Q nL (MW D dA ad u) k n pc lv (.ref (ad 0) :: st) :=
  jm_callv (na := 0) (As := []) hX hK (mmw_laysLines (jj_l X) D dA ad hD  u Post h) hlk q1878 qs93 q129 q1879 hd_mw_laysLines rfl rfl hw hF hL hk hk2 d q hq kk
/-- RaisedPressModel.size(I)I -/
def mw_size (x1 : Int32) (u : MS) (Post : Int32 → MS → Prop) : Prop :=
  (x1 < 0 →
    mw_refuse (1 : Int32) u (fun r11 u11 =>
      Post r11 u11)) ∧
  (¬ x1 < 0 →
    (x1 ≤ (4 : Int32) →
      mw_isSet u (fun r16 u16 =>
        (¬ r16 = 0 →
          mw_laysLines u16 (fun u30 =>
            (¬ x1 = 0 →
              (¬ x1 = (1 : Int32) →
                (¬ x1 = (2 : Int32) →
                  (¬ x1 = (3 : Int32) →
                    mw_gives (jm_i u30 1 10) u30 (fun r110 u110 =>
                      Post r110 u110)) ∧
                  (x1 = (3 : Int32) →
                    mw_gives (jm_i u30 1 9) u30 (fun r110 u110 =>
                      Post r110 u110))) ∧
                (x1 = (2 : Int32) →
                  ¬ (jm_i u30 1 5) = 0 ∧
                  mw_gives ((((jm_i u30 0 27) + (jm_i u30 1 5)) - (1 : Int32)) / (jm_i u30 1 5)) u30 (fun r110 u110 =>
                    Post r110 u110))) ∧
              (x1 = (1 : Int32) →
                mw_gives (jm_i u30 0 27) u30 (fun r110 u110 =>
                  Post r110 u110))) ∧
            (x1 = 0 →
              mw_gives (jm_i u30 1 8) u30 (fun r110 u110 =>
                Post r110 u110)))) ∧
        (r16 = 0 →
          mw_refuse (6 : Int32) u16 (fun r25 u25 =>
            Post r25 u25)))) ∧
    (¬ x1 ≤ (4 : Int32) →
      mw_refuse (1 : Int32) u (fun r11 u11 =>
        Post r11 u11)))
set_option maxHeartbeats 4000000 in
set_option maxRecDepth 100000 in
theorem mmw_size (l : Launch) (D : va_G) (dA ad : Nat → Nat) (hD : MD ad) (x1 : Int32) (u : MS) (Post : Int32 → MS → Prop) (h : mw_size x1 u Post) : Met l yX7_size (ws_ yX7_size cX7_size 2 (Option.some Jvm.ClassFile.FieldType.int)) (jm_rm 2 47) (jm_Pc D dA ad u [.int x1]) (va_Qi Post (jm_B D dA ad) (AM ad)) 0 0 (AM ad) := by
  refine jm_start [.int x1] [(0, .ref (ad 0)), (1, .int x1)] (by decide) (Nat.le_of_ble_eq_true rfl) rfl (fun X hX hK => ?_)
  unfold mw_size at h
  refine jj_iload_n hX dX7_size_0 1 rfl 1 rfl ?_
  refine jj_if_lt hX dX7_size_1 9 4 (by decide) rfl (fun c1 => ?_) (fun c1 => ?_)
  · have h := h.1 c1
    refine jj_aload_n hX dX7_size_9 0 rfl 10 rfl ?_
    refine jj_iconst hX dX7_size_10 ci_1 11 rfl ?_
    refine kmw_refuse hX hK hD q1702 (Nat.le_of_ble_eq_true rfl) (Nat.le_of_ble_eq_true rfl) (Nat.zero_le _) (Nat.zero_le _) (Nat.le_of_ble_eq_true rfl) dX7_size_11 14 rfl h (fun r11 u11 h => ?_)
    exact jj_reti (post := Post) (u := u11) hX dX7_size_14 (Nat.le_refl 0) (Nat.le_refl 0) jm_hB h
  · have h := h.2 c1
    refine jj_iload_n hX dX7_size_4 1 rfl 5 rfl ?_
    refine jj_iconst hX dX7_size_5 ci_4 6 rfl ?_
    refine jj_icmp_le hX dX7_size_6 15 9 (by decide) rfl (fun c6 => ?_) (fun c6 => ?_)
    · have h := h.1 c6
      refine jj_aload_n hX dX7_size_15 0 rfl 16 rfl ?_
      refine kmw_isSet hX hK hD q1864 (Nat.le_of_ble_eq_true rfl) (Nat.le_of_ble_eq_true rfl) (Nat.zero_le _) (Nat.zero_le _) (Nat.le_of_ble_eq_true rfl) dX7_size_16 19 rfl h (fun r16 u16 hb16 h => ?_)
      refine jj_if_ne hX dX7_size_19 29 22 (by decide) rfl (fun c19 => ?_) (fun c19 => ?_)
      · have h := h.1 c19
        refine jj_aload_n hX dX7_size_29 0 rfl 30 rfl ?_
        refine kmw_laysLines hX hK hD q1876 (Nat.le_of_ble_eq_true rfl) (Nat.le_of_ble_eq_true rfl) (Nat.zero_le _) (Nat.zero_le _) (Nat.le_of_ble_eq_true rfl) dX7_size_30 33 rfl h (fun u30 h => ?_)
        refine jj_aload_n hX dX7_size_33 0 rfl 34 rfl ?_
        refine jj_iload_n hX dX7_size_34 1 rfl 35 rfl ?_
        refine jj_if_ne hX dX7_size_35 48 38 (by decide) rfl (fun c35 => ?_) (fun c35 => ?_)
        · have h := h.1 c35
          refine jj_iload_n hX dX7_size_48 1 rfl 49 rfl ?_
          refine jj_iconst hX dX7_size_49 ci_1 50 rfl ?_
          refine jj_icmp_ne hX dX7_size_50 60 53 (by decide) rfl (fun c50 => ?_) (fun c50 => ?_)
          · have h := h.1 c50
            refine jj_iload_n hX dX7_size_60 1 rfl 61 rfl ?_
            refine jj_iconst hX dX7_size_61 ci_2 62 rfl ?_
            refine jj_icmp_ne hX dX7_size_62 88 65 (by decide) rfl (fun c62 => ?_) (fun c62 => ?_)
            · have h := h.1 c62
              refine jj_iload_n hX dX7_size_88 1 rfl 89 rfl ?_
              refine jj_iconst hX dX7_size_89 ci_3 90 rfl ?_
              refine jj_icmp_ne hX dX7_size_90 103 93 (by decide) rfl (fun c90 => ?_) (fun c90 => ?_)
              · have h := h.1 c90
                refine jt_0 hX hK dX7_size_103 0 rfl dX7_size_104 q1484 107 rfl rfl ?_
                refine jj_bipush hX dX7_size_107 cb_10 109 rfl ?_
                refine jr_1 hX hK 10 kc_10 vi_1_10 dX7_size_109 110 rfl ?_
                refine kmw_gives hX hK hD q1752 (Nat.le_of_ble_eq_true rfl) (Nat.le_of_ble_eq_true rfl) (Nat.zero_le _) (Nat.zero_le _) (Nat.le_of_ble_eq_true rfl) dX7_size_110 113 rfl h (fun r110 u110 h => ?_)
                exact jj_reti (post := Post) (u := u110) hX dX7_size_113 (Nat.le_refl 0) (Nat.le_refl 0) jm_hB h
              · have h := h.2 c90
                refine jt_0 hX hK dX7_size_93 0 rfl dX7_size_94 q1484 97 rfl rfl ?_
                refine jj_bipush hX dX7_size_97 cb_9 99 rfl ?_
                refine jr_1 hX hK 9 kc_9 vi_1_9 dX7_size_99 100 rfl ?_
                refine jj_goto hX dX7_size_100 110 (by decide) ?_
                refine kmw_gives hX hK hD q1752 (Nat.le_of_ble_eq_true rfl) (Nat.le_of_ble_eq_true rfl) (Nat.zero_le _) (Nat.zero_le _) (Nat.le_of_ble_eq_true rfl) dX7_size_110 113 rfl h (fun r110 u110 h => ?_)
                exact jj_reti (post := Post) (u := u110) hX dX7_size_113 (Nat.le_refl 0) (Nat.le_refl 0) jm_hB h
            · have h := h.2 c62
              refine jt_27 hX hK dX7_size_65 0 rfl dX7_size_66 q1511 69 rfl rfl ?_
              refine jt_0 hX hK dX7_size_69 0 rfl dX7_size_70 q1484 73 rfl rfl ?_
              refine jj_iconst hX dX7_size_73 ci_5 74 rfl ?_
              refine jr_1 hX hK 5 kc_5 vi_1_5 dX7_size_74 75 rfl ?_
              refine jj_iadd hX dX7_size_75 76 rfl ?_
              refine jj_iconst hX dX7_size_76 ci_1 77 rfl ?_
              refine jj_isub hX dX7_size_77 78 rfl ?_
              refine jt_0 hX hK dX7_size_78 0 rfl dX7_size_79 q1484 82 rfl rfl ?_
              refine jj_iconst hX dX7_size_82 ci_5 83 rfl ?_
              refine jr_1 hX hK 5 kc_5 vi_1_5 dX7_size_83 84 rfl ?_
              obtain ⟨hn84, h⟩ := h
              refine jj_idiv hX dX7_size_84 hn84 85 rfl ?_
              refine jj_goto hX dX7_size_85 110 (by decide) ?_
              refine kmw_gives hX hK hD q1752 (Nat.le_of_ble_eq_true rfl) (Nat.le_of_ble_eq_true rfl) (Nat.zero_le _) (Nat.zero_le _) (Nat.le_of_ble_eq_true rfl) dX7_size_110 113 rfl h (fun r110 u110 h => ?_)
              exact jj_reti (post := Post) (u := u110) hX dX7_size_113 (Nat.le_refl 0) (Nat.le_refl 0) jm_hB h
          · have h := h.2 c50
            refine jt_27 hX hK dX7_size_53 0 rfl dX7_size_54 q1511 57 rfl rfl ?_
            refine jj_goto hX dX7_size_57 110 (by decide) ?_
            refine kmw_gives hX hK hD q1752 (Nat.le_of_ble_eq_true rfl) (Nat.le_of_ble_eq_true rfl) (Nat.zero_le _) (Nat.zero_le _) (Nat.le_of_ble_eq_true rfl) dX7_size_110 113 rfl h (fun r110 u110 h => ?_)
            exact jj_reti (post := Post) (u := u110) hX dX7_size_113 (Nat.le_refl 0) (Nat.le_refl 0) jm_hB h
        · have h := h.2 c35
          refine jt_0 hX hK dX7_size_38 0 rfl dX7_size_39 q1484 42 rfl rfl ?_
          refine jj_bipush hX dX7_size_42 cb_8 44 rfl ?_
          refine jr_1 hX hK 8 kc_8 vi_1_8 dX7_size_44 45 rfl ?_
          refine jj_goto hX dX7_size_45 110 (by decide) ?_
          refine kmw_gives hX hK hD q1752 (Nat.le_of_ble_eq_true rfl) (Nat.le_of_ble_eq_true rfl) (Nat.zero_le _) (Nat.zero_le _) (Nat.le_of_ble_eq_true rfl) dX7_size_110 113 rfl h (fun r110 u110 h => ?_)
          exact jj_reti (post := Post) (u := u110) hX dX7_size_113 (Nat.le_refl 0) (Nat.le_refl 0) jm_hB h
      · have h := h.2 c19
        refine jj_aload_n hX dX7_size_22 0 rfl 23 rfl ?_
        refine jj_bipush hX dX7_size_23 cb_6 25 rfl ?_
        refine kmw_refuse hX hK hD q1702 (Nat.le_of_ble_eq_true rfl) (Nat.le_of_ble_eq_true rfl) (Nat.zero_le _) (Nat.zero_le _) (Nat.le_of_ble_eq_true rfl) dX7_size_25 28 rfl h (fun r25 u25 h => ?_)
        exact jj_reti (post := Post) (u := u25) hX dX7_size_28 (Nat.le_refl 0) (Nat.le_refl 0) jm_hB h
    · have h := h.2 c6
      refine jj_aload_n hX dX7_size_9 0 rfl 10 rfl ?_
      refine jj_iconst hX dX7_size_10 ci_1 11 rfl ?_
      refine kmw_refuse hX hK hD q1702 (Nat.le_of_ble_eq_true rfl) (Nat.le_of_ble_eq_true rfl) (Nat.zero_le _) (Nat.zero_le _) (Nat.le_of_ble_eq_true rfl) dX7_size_11 14 rfl h (fun r11 u11 h => ?_)
      exact jj_reti (post := Post) (u := u11) hX dX7_size_14 (Nat.le_refl 0) (Nat.le_refl 0) jm_hB h
theorem hd_mw_size : yX7_size.cls = RX7 ∧ yX7_size.cls ≠ "java/lang/invoke/MethodHandle" ∧ yX7_size.cls ≠ "java/lang/invoke/VarHandle" ∧ (parseMethodDescriptor yX7_size.desc).map (fun d => d.parameters.length) = some 1 := by decide +kernel
theorem kmw_size {X : JC} {Q : State → Prop} {nL k n pc : Nat} {lv : List (Nat × Value)} {st : List Value} {own : String} {cc : ByteArray} {ret : Option FieldType} {F LL mc ms ix : Nat} {D : va_G} {dA ad : Nat → Nat} {x1 : Int32} {u : MS} {Post : Int32 → MS → Prop} (hX : JX X own cc nL ret F LL mc ms) (hK : KM D dA (jj_s X)) (hD : MD ad) (hlk : (Cond.methodLink own ix yX7_size) ∈ lw_all) (hF : 2 + 1 ≤ F) (hL : 8 + (2 + 11) + 47 ≤ LL) (hk : k ≤ mc) (hk2 : n ≤ ms) (hw : (st.map fun v => v.category).sum ≤ 8) (d : decode cc pc = .ok (.invokevirtual ix, 3)) (q : Nat) (hq : pc + 3 = q) (h : mw_size x1 u Post) (kk : ∀ (r : Int32) (u2 : MS), Post r u2 → JJ X (AM ad) Q nL (MW D dA ad u2) k n q lv (.int r :: st)) : JJ X (AM ad) Q nL (MW D dA ad u) k n pc lv (.int x1 :: .ref (ad 0) :: st) :=
  jm_calli (na := 1) (As := [.int x1]) hX hK (mmw_size (jj_l X) D dA ad hD x1 u Post h) hlk q1873 q1874 q129 q1875 hd_mw_size rfl rfl hw hF hL hk hk2 d q hq kk
def mw_cell_B22 (Post : Int32 → MS → Prop) (u : MS) : Prop :=
  mw_refuse (6 : Int32) u (fun r25 u25 =>
    Post r25 u25)
/-- RaisedPressModel.cell(I)I -/
def mw_cell (x1 : Int32) (u : MS) (Post : Int32 → MS → Prop) : Prop :=
  mw_isSet u (fun r1 u1 =>
    (r1 = 0 →
      mw_cell_B22 Post u1) ∧
    (¬ r1 = 0 →
      (x1 < 0 →
        mw_cell_B22 Post u1) ∧
      (¬ x1 < 0 →
        (x1 < (jm_i u1 1 8) →
          vp_in ((600 : Int32) + x1) 19800 ∧
          mw_gives (jm_i u1 1 ((600 : Int32) + x1).toNatClampNeg) u1 (fun r42 u42 =>
            Post r42 u42)) ∧
        (¬ x1 < (jm_i u1 1 8) →
          mw_cell_B22 Post u1))))
set_option maxHeartbeats 4000000 in
set_option maxRecDepth 100000 in
theorem tmw_cell_B22 {X : JC} {D : va_G} {dA ad : Nat → Nat} {Post : Int32 → MS → Prop} {u : MS} (hX : JX X yX7_cell.cls cX7_cell 2 (Option.some Jvm.ClassFile.FieldType.int) 1 21 0 0) (hK : KM D dA (jj_s X)) (hD : MD ad) (h : mw_cell_B22 Post  u) : JJ X (AM ad) (jj_Q X (va_Qi Post (jm_B D dA ad) (AM ad)) 0 0 (AM ad)) 2 (MW D dA ad u) 0 0 22 [(0, .ref (ad 0))] [] := by
  unfold mw_cell_B22 at h
  refine jj_aload_n hX dX7_cell_22 0 rfl 23 rfl ?_
  refine jj_bipush hX dX7_cell_23 cb_6 25 rfl ?_
  refine kmw_refuse hX hK hD q1702 (Nat.le_of_ble_eq_true rfl) (Nat.le_of_ble_eq_true rfl) (Nat.zero_le _) (Nat.zero_le _) (Nat.le_of_ble_eq_true rfl) dX7_cell_25 28 rfl h (fun r25 u25 h => ?_)
  refine jj_goto hX dX7_cell_28 45 (by decide) ?_
  exact jj_reti (post := Post) (u := u25) hX dX7_cell_45 (Nat.le_refl 0) (Nat.le_refl 0) jm_hB h
set_option maxHeartbeats 4000000 in
set_option maxRecDepth 100000 in
theorem mmw_cell (l : Launch) (D : va_G) (dA ad : Nat → Nat) (hD : MD ad) (x1 : Int32) (u : MS) (Post : Int32 → MS → Prop) (h : mw_cell x1 u Post) : Met l yX7_cell (ws_ yX7_cell cX7_cell 2 (Option.some Jvm.ClassFile.FieldType.int)) (jm_rm 1 21) (jm_Pc D dA ad u [.int x1]) (va_Qi Post (jm_B D dA ad) (AM ad)) 0 0 (AM ad) := by
  refine jm_start [.int x1] [(0, .ref (ad 0)), (1, .int x1)] (by decide) (Nat.le_of_ble_eq_true rfl) rfl (fun X hX hK => ?_)
  unfold mw_cell at h
  refine jj_aload_n hX dX7_cell_0 0 rfl 1 rfl ?_
  refine kmw_isSet hX hK hD q1864 (Nat.le_of_ble_eq_true rfl) (Nat.le_of_ble_eq_true rfl) (Nat.zero_le _) (Nat.zero_le _) (Nat.le_of_ble_eq_true rfl) dX7_cell_1 4 rfl h (fun r1 u1 hb1 h => ?_)
  refine jj_if_eq hX dX7_cell_4 22 7 (by decide) rfl (fun c4 => ?_) (fun c4 => ?_)
  · have h := h.1 c4
    refine jj_sub (lv2 := [(0, .ref (ad 0))]) [0] rfl ?_
    exact tmw_cell_B22 hX hK hD h
  · have h := h.2 c4
    refine jj_iload_n hX dX7_cell_7 1 rfl 8 rfl ?_
    refine jj_if_lt hX dX7_cell_8 22 11 (by decide) rfl (fun c8 => ?_) (fun c8 => ?_)
    · have h := h.1 c8
      refine jj_sub (lv2 := [(0, .ref (ad 0))]) [0] rfl ?_
      exact tmw_cell_B22 hX hK hD h
    · have h := h.2 c8
      refine jj_iload_n hX dX7_cell_11 1 rfl 12 rfl ?_
      refine jt_0 hX hK dX7_cell_12 0 rfl dX7_cell_13 q1484 16 rfl rfl ?_
      refine jj_bipush hX dX7_cell_16 cb_8 18 rfl ?_
      refine jr_1 hX hK 8 kc_8 vi_1_8 dX7_cell_18 19 rfl ?_
      refine jj_icmp_lt hX dX7_cell_19 31 22 (by decide) rfl (fun c19 => ?_) (fun c19 => ?_)
      · have h := h.1 c19
        refine jj_aload_n hX dX7_cell_31 0 rfl 32 rfl ?_
        refine jt_0 hX hK dX7_cell_32 0 rfl dX7_cell_33 q1484 36 rfl rfl ?_
        refine jj_sipush hX dX7_cell_36 cs_600 39 rfl ?_
        refine jj_iload_n hX dX7_cell_39 1 rfl 40 rfl ?_
        refine jj_iadd hX dX7_cell_40 41 rfl ?_
        obtain ⟨hi41, h⟩ := h
        refine jr_1 hX hK _ rfl hi41 dX7_cell_41 42 rfl ?_
        refine kmw_gives hX hK hD q1752 (Nat.le_of_ble_eq_true rfl) (Nat.le_of_ble_eq_true rfl) (Nat.zero_le _) (Nat.zero_le _) (Nat.le_of_ble_eq_true rfl) dX7_cell_42 45 rfl h (fun r42 u42 h => ?_)
        exact jj_reti (post := Post) (u := u42) hX dX7_cell_45 (Nat.le_refl 0) (Nat.le_refl 0) jm_hB h
      · have h := h.2 c19
        refine jj_sub (lv2 := [(0, .ref (ad 0))]) [0] rfl ?_
        exact tmw_cell_B22 hX hK hD h
theorem hd_mw_cell : yX7_cell.cls = RX7 ∧ yX7_cell.cls ≠ "java/lang/invoke/MethodHandle" ∧ yX7_cell.cls ≠ "java/lang/invoke/VarHandle" ∧ (parseMethodDescriptor yX7_cell.desc).map (fun d => d.parameters.length) = some 1 := by decide +kernel
theorem kmw_cell {X : JC} {Q : State → Prop} {nL k n pc : Nat} {lv : List (Nat × Value)} {st : List Value} {own : String} {cc : ByteArray} {ret : Option FieldType} {F LL mc ms ix : Nat} {D : va_G} {dA ad : Nat → Nat} {x1 : Int32} {u : MS} {Post : Int32 → MS → Prop} (hX : JX X own cc nL ret F LL mc ms) (hK : KM D dA (jj_s X)) (hD : MD ad) (hlk : (Cond.methodLink own ix yX7_cell) ∈ lw_all) (hF : 1 + 1 ≤ F) (hL : 8 + (2 + 11) + 21 ≤ LL) (hk : k ≤ mc) (hk2 : n ≤ ms) (hw : (st.map fun v => v.category).sum ≤ 8) (d : decode cc pc = .ok (.invokevirtual ix, 3)) (q : Nat) (hq : pc + 3 = q) (h : mw_cell x1 u Post) (kk : ∀ (r : Int32) (u2 : MS), Post r u2 → JJ X (AM ad) Q nL (MW D dA ad u2) k n q lv (.int r :: st)) : JJ X (AM ad) Q nL (MW D dA ad u) k n pc lv (.int x1 :: .ref (ad 0) :: st) :=
  jm_calli (na := 1) (As := [.int x1]) hX hK (mmw_cell (jj_l X) D dA ad hD x1 u Post h) hlk q1893 q1894 q129 q1895 hd_mw_cell rfl rfl hw hF hL hk hk2 d q hq kk
