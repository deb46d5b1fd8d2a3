set_option linter.unusedVariables false
def mw_fewest_L67_S (Post : Int32 → MS → Prop) (R : Int32 → Int32 → MS → Prop) (x1 : Int32) (x2 : Int32) (u : MS) : Prop :=
  ((jm_i u 1 7) ≤ x2 →
    mw_gives x1 u (fun r179 u179 =>
      Post r179 u179)) ∧
  (¬ (jm_i u 1 7) ≤ x2 →
    mw_byteOf x2 u (fun r80 u80 =>
      mw_isLetter r80 (fun r83 =>
        (r83 = 0 →
          mw_byteOf x2 u80 (fun r113 u113 =>
            mw_isDigit0 r113 (fun r116 =>
              (r116 = 0 →
                ∀ v171 : Int32, v171 = x2 + (1 : Int32) →
                R x1 v171 u113) ∧
              (¬ r116 = 0 →
                mw_byteOf x2 u113 (fun r127 u127 =>
                  mw_figureLetter r127 (fun r130 =>
                    mw_justOf r130 (jm_i u127 1 6) u127 (fun r140 u140 =>
                      mw_cellsOf r140 u140 (fun r143 u143 =>
                        (x2 = 0 →
                          ∀ v170 : Int32, v170 = (x1 + (r143 + (1 : Int32))) →
                          ∀ v171 : Int32, v171 = x2 + (1 : Int32) →
                          R v170 v171 u143) ∧
                        (¬ x2 = 0 →
                          mw_byteOf (x2 - (1 : Int32)) u143 (fun r154 u154 =>
                            mw_isDigit0 r154 (fun r157 =>
                              (¬ r157 = 0 →
                                ∀ v170 : Int32, v170 = (x1 + (r143 + (0 : Int32))) →
                                ∀ v171 : Int32, v171 = x2 + (1 : Int32) →
                                R v170 v171 u154) ∧
                              (r157 = 0 →
                                ∀ v170 : Int32, v170 = (x1 + (r143 + (1 : Int32))) →
                                ∀ v171 : Int32, v171 = x2 + (1 : Int32) →
                                R v170 v171 u154)))))))))))) ∧
        (¬ r83 = 0 →
          mw_wordEnd x2 u80 (fun r94 u94 =>
            mw_leastOf x2 r94 u94 (fun r97 u97 =>
              ∀ v101 : Int32, v101 = (x1 + r97) →
              mw_wordEnd x2 u97 (fun r104 u104 =>
                R v101 r104 u104)))))))
def mw_fewest_L67 (Post : Int32 → MS → Prop) : Nat → Int32 → Int32 → MS → Prop
  | 0 => fun _ _ _ => False
  | n + 1 => fun x1 x2 u => mw_fewest_L67_S Post (mw_fewest_L67 Post n) x1 x2 u
/-- RaisedPressModel.fewest()I -/
def mw_fewest (u : MS) (Post : Int32 → MS → Prop) : Prop :=
  mw_isSet u (fun r1 u1 =>
    (¬ r1 = 0 →
      mw_laysBytes u1 (fun u15 =>
        mw_setsAll (jm_i u15 1 6) u15 (fun r26 u26 =>
          (¬ r26 = 0 →
            ((jm_i u26 1 16509) ≤ 0 →
              ∃ n, mw_fewest_L67 Post n (0 : Int32) (0 : Int32) u26) ∧
            (¬ (jm_i u26 1 16509) ≤ 0 →
              ∀ v64 : Int32, v64 = ((jm_i u26 1 16509) - (1 : Int32)) →
              ∃ n, mw_fewest_L67 Post n v64 (0 : Int32) u26)) ∧
          (r26 = 0 →
            mw_refuse (7 : Int32) u26 (fun r35 u35 =>
              Post r35 u35))))) ∧
    (r1 = 0 →
      mw_refuse (6 : Int32) u1 (fun r10 u10 =>
        Post r10 u10)))
set_option maxHeartbeats 4000000 in
set_option maxRecDepth 100000 in
theorem tmw_fewest_L67 {X : JC} {D : va_G} {dA ad : Nat → Nat} {Post : Int32 → MS → Prop} (hX : JX X yX7_fewest.cls cX7_fewest 3 (Option.some Jvm.ClassFile.FieldType.int) 6 141 0 0) (hK : KM D dA (jj_s X)) (hD : MD ad) : ∀ (n : Nat) (x1 : Int32) (x2 : Int32) (u : MS), mw_fewest_L67 Post n x1 x2 u → JJ X (AM ad) (jj_Q X (va_Qi Post (jm_B D dA ad) (AM ad)) 0 0 (AM ad)) 3 (MW D dA ad u) 0 0 67 [(0, .ref (ad 0)), (1, .int x1), (2, .int x2)] [] := by
  intro n
  induction n with
  | zero =>
    intro x1 x2 u h
    exact h.elim
  | succ n ih =>
    intro x1 x2 u h
    have h : mw_fewest_L67_S Post (mw_fewest_L67 Post n) x1 x2 u := h
    unfold mw_fewest_L67_S at h
    refine jj_iload_n hX dX7_fewest_67 2 rfl 68 rfl ?_
    refine jt_0 hX hK dX7_fewest_68 0 rfl dX7_fewest_69 q1484 72 rfl rfl ?_
    refine jj_bipush hX dX7_fewest_72 cb_7 74 rfl ?_
    refine jr_1 hX hK 7 kc_7 vi_1_7 dX7_fewest_74 75 rfl ?_
    refine jj_icmp_ge hX dX7_fewest_75 177 78 (by decide) rfl (fun c75 => ?_) (fun c75 => ?_)
    · have h := h.1 c75
      refine jj_aload_n hX dX7_fewest_177 0 rfl 178 rfl ?_
      refine jj_iload_n hX dX7_fewest_178 1 rfl 179 rfl ?_
      refine kmw_gives hX hK hD q1752 (Nat.le_of_ble_eq_true rfl) (Nat.le_of_ble_eq_true rfl) (Nat.zero_le _) (Nat.zero_le _) (Nat.le_of_ble_eq_true rfl) dX7_fewest_179 182 rfl h (fun r179 u179 h => ?_)
      exact jj_reti (post := Post) (u := u179) hX dX7_fewest_182 (Nat.le_refl 0) (Nat.le_refl 0) jm_hB h
    · have h := h.2 c75
      refine jj_aload_n hX dX7_fewest_78 0 rfl 79 rfl ?_
      refine jj_iload_n hX dX7_fewest_79 2 rfl 80 rfl ?_
      refine kmw_byteOf hX hK hD q1764 (Nat.le_of_ble_eq_true rfl) (Nat.le_of_ble_eq_true rfl) (Nat.zero_le _) (Nat.zero_le _) (Nat.le_of_ble_eq_true rfl) dX7_fewest_80 83 rfl h (fun r80 u80 h => ?_)
      refine kmw_isLetter hX MW.keeps q1771 (Nat.le_of_ble_eq_true rfl) (Nat.le_of_ble_eq_true rfl) (Nat.zero_le _) (Nat.zero_le _) (Nat.le_of_ble_eq_true rfl) dX7_fewest_83 86 rfl h (fun r83 hb83 h => ?_)
      refine jj_if_eq hX dX7_fewest_86 111 89 (by decide) rfl (fun c86 => ?_) (fun c86 => ?_)
      · have h := h.1 c86
        refine jj_aload_n hX dX7_fewest_111 0 rfl 112 rfl ?_
        refine jj_iload_n hX dX7_fewest_112 2 rfl 113 rfl ?_
        refine kmw_byteOf hX hK hD q1764 (Nat.le_of_ble_eq_true rfl) (Nat.le_of_ble_eq_true rfl) (Nat.zero_le _) (Nat.zero_le _) (Nat.le_of_ble_eq_true rfl) dX7_fewest_113 116 rfl h (fun r113 u113 h => ?_)
        refine kmw_isDigit0 hX MW.keeps q1777 (Nat.le_of_ble_eq_true rfl) (Nat.le_of_ble_eq_true rfl) (Nat.zero_le _) (Nat.zero_le _) (Nat.le_of_ble_eq_true rfl) dX7_fewest_116 119 rfl h (fun r116 hb116 h => ?_)
        refine jj_if_eq hX dX7_fewest_119 171 122 (by decide) rfl (fun c119 => ?_) (fun c119 => ?_)
        · have h := h.1 c119
          obtain ⟨v171, e171⟩ : ∃ y : Int32, y = x2 + (1 : Int32) := ⟨_, rfl⟩
          have h := h v171 e171
          refine jj_iinc (v := v171) (lv2 := [(0, .ref (ad 0)), (1, .int x1), (2, .int v171)]) hX dX7_fewest_171 2 rfl (by rw [e171, ci_1]) (Nat.le_of_ble_eq_true rfl) [1, 2, 0] rfl 174 rfl ?_
          refine jj_goto hX dX7_fewest_174 67 (by decide) ?_
          exact ih _ _ _ h
        · have h := h.2 c119
          refine jj_iload_n hX dX7_fewest_122 1 rfl 123 rfl ?_
          refine jj_aload_n hX dX7_fewest_123 0 rfl 124 rfl ?_
          refine jj_aload_n hX dX7_fewest_124 0 rfl 125 rfl ?_
          refine jj_aload_n hX dX7_fewest_125 0 rfl 126 rfl ?_
          refine jj_iload_n hX dX7_fewest_126 2 rfl 127 rfl ?_
          refine kmw_byteOf hX hK hD q1764 (Nat.le_of_ble_eq_true rfl) (Nat.le_of_ble_eq_true rfl) (Nat.zero_le _) (Nat.zero_le _) (Nat.le_of_ble_eq_true rfl) dX7_fewest_127 130 rfl h (fun r127 u127 h => ?_)
          refine kmw_figureLetter hX MW.keeps q1817 (Nat.le_of_ble_eq_true rfl) (Nat.le_of_ble_eq_true rfl) (Nat.zero_le _) (Nat.zero_le _) (Nat.le_of_ble_eq_true rfl) dX7_fewest_130 133 rfl h (fun r130 h => ?_)
          refine jt_0 hX hK dX7_fewest_133 0 rfl dX7_fewest_134 q1484 137 rfl rfl ?_
          refine jj_bipush hX dX7_fewest_137 cb_6 139 rfl ?_
          refine jr_1 hX hK 6 kc_6 vi_1_6 dX7_fewest_139 140 rfl ?_
          refine kmw_justOf hX hK hD q1820 (Nat.le_of_ble_eq_true rfl) (Nat.le_of_ble_eq_true rfl) (Nat.zero_le _) (Nat.zero_le _) (Nat.le_of_ble_eq_true rfl) dX7_fewest_140 143 rfl h (fun r140 u140 h => ?_)
          refine kmw_cellsOf hX hK hD q1848 (Nat.le_of_ble_eq_true rfl) (Nat.le_of_ble_eq_true rfl) (Nat.zero_le _) (Nat.zero_le _) (Nat.le_of_ble_eq_true rfl) dX7_fewest_143 146 rfl h (fun r143 u143 h => ?_)
          refine jj_iload_n hX dX7_fewest_146 2 rfl 147 rfl ?_
          refine jj_if_eq hX dX7_fewest_147 163 150 (by decide) rfl (fun c147 => ?_) (fun c147 => ?_)
          · have h := h.1 c147
            refine jj_iconst hX dX7_fewest_163 ci_1 164 rfl ?_
            refine jj_goto hX dX7_fewest_164 168 (by decide) ?_
            refine jj_iadd hX dX7_fewest_168 169 rfl ?_
            refine jj_iadd hX dX7_fewest_169 170 rfl ?_
            refine jj_topi (fun v170 e170 => ?_)
            have h := h v170 e170
            refine jj_istore_n (lv2 := [(0, .ref (ad 0)), (1, .int v170), (2, .int x2)]) hX dX7_fewest_170 (Nat.le_of_ble_eq_true rfl) [1, 0, 2] rfl 171 rfl ?_
            obtain ⟨v171, e171⟩ : ∃ y : Int32, y = x2 + (1 : Int32) := ⟨_, rfl⟩
            have h := h v171 e171
            refine jj_iinc (v := v171) (lv2 := [(0, .ref (ad 0)), (1, .int v170), (2, .int v171)]) hX dX7_fewest_171 2 rfl (by rw [e171, ci_1]) (Nat.le_of_ble_eq_true rfl) [1, 2, 0] rfl 174 rfl ?_
            refine jj_goto hX dX7_fewest_174 67 (by decide) ?_
            exact ih _ _ _ h
          · have h := h.2 c147
            refine jj_aload_n hX dX7_fewest_150 0 rfl 151 rfl ?_
            refine jj_iload_n hX dX7_fewest_151 2 rfl 152 rfl ?_
            refine jj_iconst hX dX7_fewest_152 ci_1 153 rfl ?_
            refine jj_isub hX dX7_fewest_153 154 rfl ?_
            refine kmw_byteOf hX hK hD q1764 (Nat.le_of_ble_eq_true rfl) (Nat.le_of_ble_eq_true rfl) (Nat.zero_le _) (Nat.zero_le _) (Nat.le_of_ble_eq_true rfl) dX7_fewest_154 157 rfl h (fun r154 u154 h => ?_)
            refine kmw_isDigit0 hX MW.keeps q1777 (Nat.le_of_ble_eq_true rfl) (Nat.le_of_ble_eq_true rfl) (Nat.zero_le _) (Nat.zero_le _) (Nat.le_of_ble_eq_true rfl) dX7_fewest_157 160 rfl h (fun r157 hb157 h => ?_)
            refine jj_if_ne hX dX7_fewest_160 167 163 (by decide) rfl (fun c160 => ?_) (fun c160 => ?_)
            · have h := h.1 c160
              refine jj_iconst hX dX7_fewest_167 ci_0 168 rfl ?_
              refine jj_iadd hX dX7_fewest_168 169 rfl ?_
              refine jj_iadd hX dX7_fewest_169 170 rfl ?_
              refine jj_topi (fun v170 e170 => ?_)
              have h := h v170 e170
              refine jj_istore_n (lv2 := [(0, .ref (ad 0)), (1, .int v170), (2, .int x2)]) hX dX7_fewest_170 (Nat.le_of_ble_eq_true rfl) [1, 0, 2] rfl 171 rfl ?_
              obtain ⟨v171, e171⟩ : ∃ y : Int32, y = x2 + (1 : Int32) := ⟨_, rfl⟩
              have h := h v171 e171
              refine jj_iinc (v := v171) (lv2 := [(0, .ref (ad 0)), (1, .int v170), (2, .int v171)]) hX dX7_fewest_171 2 rfl (by rw [e171, ci_1]) (Nat.le_of_ble_eq_true rfl) [1, 2, 0] rfl 174 rfl ?_
              refine jj_goto hX dX7_fewest_174 67 (by decide) ?_
              exact ih _ _ _ h
            · have h := h.2 c160
              refine jj_iconst hX dX7_fewest_163 ci_1 164 rfl ?_
              refine jj_goto hX dX7_fewest_164 168 (by decide) ?_
              refine jj_iadd hX dX7_fewest_168 169 rfl ?_
              refine jj_iadd hX dX7_fewest_169 170 rfl ?_
              refine jj_topi (fun v170 e170 => ?_)
              have h := h v170 e170
              refine jj_istore_n (lv2 := [(0, .ref (ad 0)), (1, .int v170), (2, .int x2)]) hX dX7_fewest_170 (Nat.le_of_ble_eq_true rfl) [1, 0, 2] rfl 171 rfl ?_
              obtain ⟨v171, e171⟩ : ∃ y : Int32, y = x2 + (1 : Int32) := ⟨_, rfl⟩
              have h := h v171 e171
              refine jj_iinc (v := v171) (lv2 := [(0, .ref (ad 0)), (1, .int v170), (2, .int v171)]) hX dX7_fewest_171 2 rfl (by rw [e171, ci_1]) (Nat.le_of_ble_eq_true rfl) [1, 2, 0] rfl 174 rfl ?_
              refine jj_goto hX dX7_fewest_174 67 (by decide) ?_
              exact ih _ _ _ h
      · have h := h.2 c86
        refine jj_iload_n hX dX7_fewest_89 1 rfl 90 rfl ?_
        refine jj_aload_n hX dX7_fewest_90 0 rfl 91 rfl ?_
        refine jj_iload_n hX dX7_fewest_91 2 rfl 92 rfl ?_
        refine jj_aload_n hX dX7_fewest_92 0 rfl 93 rfl ?_
        refine jj_iload_n hX dX7_fewest_93 2 rfl 94 rfl ?_
        refine kmw_wordEnd hX hK hD q1788 (Nat.le_of_ble_eq_true rfl) (Nat.le_of_ble_eq_true rfl) (Nat.zero_le _) (Nat.zero_le _) (Nat.le_of_ble_eq_true rfl) dX7_fewest_94 97 rfl h (fun r94 u94 h => ?_)
        refine kmw_leastOf hX hK hD q2022 (Nat.le_of_ble_eq_true rfl) (Nat.le_of_ble_eq_true rfl) (Nat.zero_le _) (Nat.zero_le _) (Nat.le_of_ble_eq_true rfl) dX7_fewest_97 100 rfl h (fun r97 u97 h => ?_)
        refine jj_iadd hX dX7_fewest_100 101 rfl ?_
        refine jj_topi (fun v101 e101 => ?_)
        have h := h v101 e101
        refine jj_istore_n (lv2 := [(0, .ref (ad 0)), (1, .int v101), (2, .int x2)]) hX dX7_fewest_101 (Nat.le_of_ble_eq_true rfl) [1, 0, 2] rfl 102 rfl ?_
        refine jj_aload_n hX dX7_fewest_102 0 rfl 103 rfl ?_
        refine jj_iload_n hX dX7_fewest_103 2 rfl 104 rfl ?_
        refine kmw_wordEnd hX hK hD q1788 (Nat.le_of_ble_eq_true rfl) (Nat.le_of_ble_eq_true rfl) (Nat.zero_le _) (Nat.zero_le _) (Nat.le_of_ble_eq_true rfl) dX7_fewest_104 107 rfl h (fun r104 u104 h => ?_)
        refine jj_istore_n (lv2 := [(0, .ref (ad 0)), (1, .int v101), (2, .int r104)]) hX dX7_fewest_107 (Nat.le_of_ble_eq_true rfl) [1, 2, 0] rfl 108 rfl ?_
        refine jj_goto hX dX7_fewest_108 67 (by decide) ?_
        exact ih _ _ _ h
set_option maxHeartbeats 4000000 in
set_option maxRecDepth 100000 in
theorem mmw_fewest (l : Launch) (D : va_G) (dA ad : Nat → Nat) (hD : MD ad) (u : MS) (Post : Int32 → MS → Prop) (h : mw_fewest  u Post) : Met l yX7_fewest (ws_ yX7_fewest cX7_fewest 3 (Option.some Jvm.ClassFile.FieldType.int)) (jm_rm 6 141) (jm_Pc D dA ad u []) (va_Qi Post (jm_B D dA ad) (AM ad)) 0 0 (AM ad) := by
  refine jm_start [] [(0, .ref (ad 0))] (by decide) (Nat.le_of_ble_eq_true rfl) rfl (fun X hX hK => ?_)
  unfold mw_fewest at h
  refine jj_aload_n hX dX7_fewest_0 0 rfl 1 rfl ?_
  refine kmw_isSet hX hK hD q1864 (Nat.le_of_ble_eq_true rfl) (Nat.le_of_ble_eq_true rfl) (Nat.zero_le _) (Nat.zero_le _) (Nat.le_of_ble_eq_true rfl) dX7_fewest_1 4 rfl h (fun r1 u1 hb1 h => ?_)
  refine jj_if_ne hX dX7_fewest_4 14 7 (by decide) rfl (fun c4 => ?_) (fun c4 => ?_)
  · have h := h.1 c4
    refine jj_aload_n hX dX7_fewest_14 0 rfl 15 rfl ?_
    refine kmw_laysBytes hX hK hD q1868 (Nat.le_of_ble_eq_true rfl) (Nat.le_of_ble_eq_true rfl) (Nat.zero_le _) (Nat.zero_le _) (Nat.le_of_ble_eq_true rfl) dX7_fewest_15 18 rfl h (fun u15 h => ?_)
    refine jj_aload_n hX dX7_fewest_18 0 rfl 19 rfl ?_
    refine jt_0 hX hK dX7_fewest_19 0 rfl dX7_fewest_20 q1484 23 rfl rfl ?_
    refine jj_bipush hX dX7_fewest_23 cb_6 25 rfl ?_
    refine jr_1 hX hK 6 kc_6 vi_1_6 dX7_fewest_25 26 rfl ?_
    refine kmw_setsAll hX hK hD q1760 (Nat.le_of_ble_eq_true rfl) (Nat.le_of_ble_eq_true rfl) (Nat.zero_le _) (Nat.zero_le _) (Nat.le_of_ble_eq_true rfl) dX7_fewest_26 29 rfl h (fun r26 u26 hb26 h => ?_)
    refine jj_if_ne hX dX7_fewest_29 39 32 (by decide) rfl (fun c29 => ?_) (fun c29 => ?_)
    · have h := h.1 c29
      refine jt_0 hX hK dX7_fewest_39 0 rfl dX7_fewest_40 q1484 43 rfl rfl ?_
      refine jj_sipush hX dX7_fewest_43 cs_16509 46 rfl ?_
      refine jr_1 hX hK 16509 kc_16509 vi_1_16509 dX7_fewest_46 47 rfl ?_
      refine jj_if_le hX dX7_fewest_47 63 50 (by decide) rfl (fun c47 => ?_) (fun c47 => ?_)
      · have h := h.1 c47
        refine jj_iconst hX dX7_fewest_63 ci_0 64 rfl ?_
        refine jj_istore_n (lv2 := [(0, .ref (ad 0)), (1, .int (0 : Int32))]) hX dX7_fewest_64 (Nat.le_of_ble_eq_true rfl) [1, 0] rfl 65 rfl ?_
        refine jj_iconst hX dX7_fewest_65 ci_0 66 rfl ?_
        refine jj_istore_n (lv2 := [(0, .ref (ad 0)), (1, .int (0 : Int32)), (2, .int (0 : Int32))]) hX dX7_fewest_66 (Nat.le_of_ble_eq_true rfl) [1, 2, 0] rfl 67 rfl ?_
        obtain ⟨n9, h⟩ := h
        exact tmw_fewest_L67 hX hK hD n9 _ _ _ h
      · have h := h.2 c47
        refine jt_0 hX hK dX7_fewest_50 0 rfl dX7_fewest_51 q1484 54 rfl rfl ?_
        refine jj_sipush hX dX7_fewest_54 cs_16509 57 rfl ?_
        refine jr_1 hX hK 16509 kc_16509 vi_1_16509 dX7_fewest_57 58 rfl ?_
        refine jj_iconst hX dX7_fewest_58 ci_1 59 rfl ?_
        refine jj_isub hX dX7_fewest_59 60 rfl ?_
        refine jj_goto hX dX7_fewest_60 64 (by decide) ?_
        refine jj_topi (fun v64 e64 => ?_)
        have h := h v64 e64
        refine jj_istore_n (lv2 := [(0, .ref (ad 0)), (1, .int v64)]) hX dX7_fewest_64 (Nat.le_of_ble_eq_true rfl) [1, 0] rfl 65 rfl ?_
        refine jj_iconst hX dX7_fewest_65 ci_0 66 rfl ?_
        refine jj_istore_n (lv2 := [(0, .ref (ad 0)), (1, .int v64), (2, .int (0 : Int32))]) hX dX7_fewest_66 (Nat.le_of_ble_eq_true rfl) [1, 2, 0] rfl 67 rfl ?_
        obtain ⟨n9, h⟩ := h
        exact tmw_fewest_L67 hX hK hD n9 _ _ _ h
    · have h := h.2 c29
      refine jj_aload_n hX dX7_fewest_32 0 rfl 33 rfl ?_
      refine jj_bipush hX dX7_fewest_33 cb_7 35 rfl ?_
      refine kmw_refuse hX hK hD q1702 (Nat.le_of_ble_eq_true rfl) (Nat.le_of_ble_eq_true rfl) (Nat.zero_le _) (Nat.zero_le _) (Nat.le_of_ble_eq_true rfl) dX7_fewest_35 38 rfl h (fun r35 u35 h => ?_)
      exact jj_reti (post := Post) (u := u35) hX dX7_fewest_38 (Nat.le_refl 0) (Nat.le_refl 0) jm_hB h
  · have h := h.2 c4
    refine jj_aload_n hX dX7_fewest_7 0 rfl 8 rfl ?_
    refine jj_bipush hX dX7_fewest_8 cb_6 10 rfl ?_
    refine kmw_refuse hX hK hD q1702 (Nat.le_of_ble_eq_true rfl) (Nat.le_of_ble_eq_true rfl) (Nat.zero_le _) (Nat.zero_le _) (Nat.le_of_ble_eq_true rfl) dX7_fewest_10 13 rfl h (fun r10 u10 h => ?_)
    exact jj_reti (post := Post) (u := u10) hX dX7_fewest_13 (Nat.le_refl 0) (Nat.le_refl 0) jm_hB h
theorem hd_mw_fewest : yX7_fewest.cls = RX7 ∧ yX7_fewest.cls ≠ "java/lang/invoke/MethodHandle" ∧ yX7_fewest.cls ≠ "java/lang/invoke/VarHandle" ∧ (parseMethodDescriptor yX7_fewest.desc).map (fun d => d.parameters.length) = some 0 := by decide +kernel
theorem kmw_fewest {X : JC} {Q : State → Prop} {nL k n pc : Nat} {lv : List (Nat × Value)} {st : List Value} {own : String} {cc : ByteArray} {ret : Option FieldType} {F LL mc ms ix : Nat} {D : va_G} {dA ad : Nat → Nat} {u : MS} {Post : Int32 → MS → Prop} (hX : JX X own cc nL ret F LL mc ms) (hK : KM D dA (jj_s X)) (hD : MD ad) (hlk : (Cond.methodLink own ix yX7_fewest) ∈ lw_all) (hF : 6 + 1 ≤ F) (hL : 8 + (3 + 11) + 141 ≤ LL) (hk : k ≤ mc) (hk2 : n ≤ ms) (hw : (st.map fun v => v.category).sum ≤ 8) (d : decode cc pc = .ok (.invokevirtual ix, 3)) (q : Nat) (hq : pc + 3 = q) (h : mw_fewest  u Post) (kk : ∀ (r : Int32) (u2 : MS), Post r u2 → JJ X (AM ad) Q nL (MW D dA ad u2) k n q lv (.int r :: st)) : JJ X (AM ad) Q nL (MW D dA ad u) k n pc lv (.ref (ad 0) :: st) :=
  jm_calli (na := 0) (As := []) hX hK (mmw_fewest (jj_l X) D dA ad hD  u Post h) hlk q2019 q2020 q129 q2021 hd_mw_fewest rfl rfl hw hF hL hk hk2 d q hq kk
/-- RaisedPressModel.takesBy(I)I -/
def mw_takesBy (x1 : Int32) (u : MS) (Post : Int32 → MS → Prop) : Prop :=
  mw_laysBytes u (fun u1 =>
    mw_setsAll x1 u1 (fun r6 u6 =>
      (r6 = 0 →
        Post (-1 : Int32) u6) ∧
      (¬ r6 = 0 →
        Post (jm_i u6 1 16508) u6)))
set_option maxHeartbeats 4000000 in
set_option maxRecDepth 100000 in
theorem mmw_takesBy (l : Launch) (D : va_G) (dA ad : Nat → Nat) (hD : MD ad) (x1 : Int32) (u : MS) (Post : Int32 → MS → Prop) (h : mw_takesBy x1 u Post) : Met l yX7_takesBy (ws_ yX7_takesBy cX7_takesBy 2 (Option.some Jvm.ClassFile.FieldType.int)) (jm_rm 6 141) (jm_Pc D dA ad u [.int x1]) (va_Qi Post (jm_B D dA ad) (AM ad)) 0 0 (AM ad) := by
  refine jm_start [.int x1] [(0, .ref (ad 0)), (1, .int x1)] (by decide) (Nat.le_of_ble_eq_true rfl) rfl (fun X hX hK => ?_)
  unfold mw_takesBy at h
  refine jj_aload_n hX dX7_takesBy_0 0 rfl 1 rfl ?_
  refine kmw_laysBytes hX hK hD q1868 (Nat.le_of_ble_eq_true rfl) (Nat.le_of_ble_eq_true rfl) (Nat.zero_le _) (Nat.zero_le _) (Nat.le_of_ble_eq_true rfl) dX7_takesBy_1 4 rfl h (fun u1 h => ?_)
  refine jj_aload_n hX dX7_takesBy_4 0 rfl 5 rfl ?_
  refine jj_iload_n hX dX7_takesBy_5 1 rfl 6 rfl ?_
  refine kmw_setsAll hX hK hD q1760 (Nat.le_of_ble_eq_true rfl) (Nat.le_of_ble_eq_true rfl) (Nat.zero_le _) (Nat.zero_le _) (Nat.le_of_ble_eq_true rfl) dX7_takesBy_6 9 rfl h (fun r6 u6 hb6 h => ?_)
  refine jj_if_eq hX dX7_takesBy_9 23 12 (by decide) rfl (fun c9 => ?_) (fun c9 => ?_)
  · have h := h.1 c9
    refine jj_iconst hX dX7_takesBy_23 ci_m1 24 rfl ?_
    exact jj_reti (post := Post) (u := u6) hX dX7_takesBy_24 (Nat.le_refl 0) (Nat.le_refl 0) jm_hB h
  · have h := h.2 c9
    refine jt_0 hX hK dX7_takesBy_12 0 rfl dX7_takesBy_13 q1484 16 rfl rfl ?_
    refine jj_sipush hX dX7_takesBy_16 cs_16508 19 rfl ?_
    refine jr_1 hX hK 16508 kc_16508 vi_1_16508 dX7_takesBy_19 20 rfl ?_
    refine jj_goto hX dX7_takesBy_20 24 (by decide) ?_
    exact jj_reti (post := Post) (u := u6) hX dX7_takesBy_24 (Nat.le_refl 0) (Nat.le_refl 0) jm_hB h
theorem hd_mw_takesBy : yX7_takesBy.cls = RX7 ∧ yX7_takesBy.cls ≠ "java/lang/invoke/MethodHandle" ∧ yX7_takesBy.cls ≠ "java/lang/invoke/VarHandle" ∧ (parseMethodDescriptor yX7_takesBy.desc).map (fun d => d.parameters.length) = some 1 := by decide +kernel
theorem kmw_takesBy {X : JC} {Q : State → Prop} {nL k n pc : Nat} {lv : List (Nat × Value)} {st : List Value} {own : String} {cc : ByteArray} {ret : Option FieldType} {F LL mc ms ix : Nat} {D : va_G} {dA ad : Nat → Nat} {x1 : Int32} {u : MS} {Post : Int32 → MS → Prop} (hX : JX X own cc nL ret F LL mc ms) (hK : KM D dA (jj_s X)) (hD : MD ad) (hlk : (Cond.methodLink own ix yX7_takesBy) ∈ lw_all) (hF : 6 + 1 ≤ F) (hL : 8 + (2 + 11) + 141 ≤ LL) (hk : k ≤ mc) (hk2 : n ≤ ms) (hw : (st.map fun v => v.category).sum ≤ 8) (d : decode cc pc = .ok (.invokevirtual ix, 3)) (q : Nat) (hq : pc + 3 = q) (h : mw_takesBy x1 u Post) (kk : ∀ (r : Int32) (u2 : MS), Post r u2 → JJ X (AM ad) Q nL (MW D dA ad u2) k n q lv (.int r :: st)) : JJ X (AM ad) Q nL (MW D dA ad u) k n pc lv (.int x1 :: .ref (ad 0) :: st) :=
  jm_calli (na := 1) (As := [.int x1]) hX hK (mmw_takesBy (jj_l X) D dA ad hD x1 u Post h) hlk q2033 qs102 q129 q2034 hd_mw_takesBy rfl rfl hw hF hL hk hk2 d q hq kk
/-- RaisedPressModel.saving(I)I -/
def mw_saving (x1 : Int32) (u : MS) (Post : Int32 → MS → Prop) : Prop :=
  mw_isRule x1 u (fun r2 u2 =>
    (¬ r2 = 0 →
      mw_isSet u2 (fun r15 u15 =>
        (¬ r15 = 0 →
          mw_takesBy (jm_i u15 1 6) u15 (fun r36 u36 =>
            mw_takesBy ((jm_i u36 1 6) ||| ((1 : Int32) <<< (x1 &&& 31))) u36 (fun r52 u52 =>
              (r36 = (-1 : Int32) →
                mw_refuse (7 : Int32) u52 (fun r69 u69 =>
                  Post r69 u69)) ∧
              (¬ r36 = (-1 : Int32) →
                (¬ r52 = (-1 : Int32) →
                  mw_gives (r52 - r36) u52 (fun r79 u79 =>
                    Post r79 u79)) ∧
                (r52 = (-1 : Int32) →
                  mw_refuse (7 : Int32) u52 (fun r69 u69 =>
                    Post r69 u69)))))) ∧
        (r15 = 0 →
          mw_refuse (6 : Int32) u15 (fun r24 u24 =>
            Post r24 u24)))) ∧
    (r2 = 0 →
      mw_refuse (1 : Int32) u2 (fun r10 u10 =>
        Post r10 u10)))
set_option maxHeartbeats 4000000 in
set_option maxRecDepth 100000 in
theorem mmw_saving (l : Launch) (D : va_G) (dA ad : Nat → Nat) (hD : MD ad) (x1 : Int32) (u : MS) (Post : Int32 → MS → Prop) (h : mw_saving x1 u Post) : Met l yX7_saving (ws_ yX7_saving cX7_saving 4 (Option.some Jvm.ClassFile.FieldType.int)) (jm_rm 7 162) (jm_Pc D dA ad u [.int x1]) (va_Qi Post (jm_B D dA ad) (AM ad)) 0 0 (AM ad) := by
  refine jm_start [.int x1] [(0, .ref (ad 0)), (1, .int x1)] (by decide) (Nat.le_of_ble_eq_true rfl) rfl (fun X hX hK => ?_)
  unfold mw_saving at h
  refine jj_aload_n hX dX7_saving_0 0 rfl 1 rfl ?_
  refine jj_iload_n hX dX7_saving_1 1 rfl 2 rfl ?_
  refine kmw_isRule hX hK hD q1836 (Nat.le_of_ble_eq_true rfl) (Nat.le_of_ble_eq_true rfl) (Nat.zero_le _) (Nat.zero_le _) (Nat.le_of_ble_eq_true rfl) dX7_saving_2 5 rfl h (fun r2 u2 hb2 h => ?_)
  refine jj_if_ne hX dX7_saving_5 14 8 (by decide) rfl (fun c5 => ?_) (fun c5 => ?_)
  · have h := h.1 c5
    refine jj_aload_n hX dX7_saving_14 0 rfl 15 rfl ?_
    refine kmw_isSet hX hK hD q1864 (Nat.le_of_ble_eq_true rfl) (Nat.le_of_ble_eq_true rfl) (Nat.zero_le _) (Nat.zero_le _) (Nat.le_of_ble_eq_true rfl) dX7_saving_15 18 rfl h (fun r15 u15 hb15 h => ?_)
    refine jj_if_ne hX dX7_saving_18 28 21 (by decide) rfl (fun c18 => ?_) (fun c18 => ?_)
    · have h := h.1 c18
      refine jj_aload_n hX dX7_saving_28 0 rfl 29 rfl ?_
      refine jt_0 hX hK dX7_saving_29 0 rfl dX7_saving_30 q1484 33 rfl rfl ?_
      refine jj_bipush hX dX7_saving_33 cb_6 35 rfl ?_
      refine jr_1 hX hK 6 kc_6 vi_1_6 dX7_saving_35 36 rfl ?_
      refine kmw_takesBy hX hK hD q2031 (Nat.le_of_ble_eq_true rfl) (Nat.le_of_ble_eq_true rfl) (Nat.zero_le _) (Nat.zero_le _) (Nat.le_of_ble_eq_true rfl) dX7_saving_36 39 rfl h (fun r36 u36 h => ?_)
      refine jj_istore_n (lv2 := [(0, .ref (ad 0)), (1, .int x1), (2, .int r36)]) hX dX7_saving_39 (Nat.le_of_ble_eq_true rfl) [1, 2, 0] rfl 40 rfl ?_
      refine jj_aload_n hX dX7_saving_40 0 rfl 41 rfl ?_
      refine jt_0 hX hK dX7_saving_41 0 rfl dX7_saving_42 q1484 45 rfl rfl ?_
      refine jj_bipush hX dX7_saving_45 cb_6 47 rfl ?_
      refine jr_1 hX hK 6 kc_6 vi_1_6 dX7_saving_47 48 rfl ?_
      refine jj_iconst hX dX7_saving_48 ci_1 49 rfl ?_
      refine jj_iload_n hX dX7_saving_49 1 rfl 50 rfl ?_
      refine jj_ishl hX dX7_saving_50 51 rfl ?_
      refine jj_ior hX dX7_saving_51 52 rfl ?_
      refine kmw_takesBy hX hK hD q2031 (Nat.le_of_ble_eq_true rfl) (Nat.le_of_ble_eq_true rfl) (Nat.zero_le _) (Nat.zero_le _) (Nat.le_of_ble_eq_true rfl) dX7_saving_52 55 rfl h (fun r52 u52 h => ?_)
      refine jj_istore_n (lv2 := [(0, .ref (ad 0)), (2, .int r36), (3, .int r52)]) hX dX7_saving_55 (Nat.le_of_ble_eq_true rfl) [1, 3, 0] rfl 56 rfl ?_
      refine jj_iload_n hX dX7_saving_56 1 rfl 57 rfl ?_
      refine jj_iconst hX dX7_saving_57 ci_m1 58 rfl ?_
      refine jj_icmp_eq hX dX7_saving_58 66 61 (by decide) rfl (fun c58 => ?_) (fun c58 => ?_)
      · have h := h.1 c58
        refine jj_aload_n hX dX7_saving_66 0 rfl 67 rfl ?_
        refine jj_bipush hX dX7_saving_67 cb_7 69 rfl ?_
        refine kmw_refuse hX hK hD q1702 (Nat.le_of_ble_eq_true rfl) (Nat.le_of_ble_eq_true rfl) (Nat.zero_le _) (Nat.zero_le _) (Nat.le_of_ble_eq_true rfl) dX7_saving_69 72 rfl h (fun r69 u69 h => ?_)
        refine jj_goto hX dX7_saving_72 82 (by decide) ?_
        exact jj_reti (post := Post) (u := u69) hX dX7_saving_82 (Nat.le_refl 0) (Nat.le_refl 0) jm_hB h
      · have h := h.2 c58
        refine jj_iload_n hX dX7_saving_61 2 rfl 62 rfl ?_
        refine jj_iconst hX dX7_saving_62 ci_m1 63 rfl ?_
        refine jj_icmp_ne hX dX7_saving_63 75 66 (by decide) rfl (fun c63 => ?_) (fun c63 => ?_)
        · have h := h.1 c63
          refine jj_aload_n hX dX7_saving_75 0 rfl 76 rfl ?_
          refine jj_iload_n hX dX7_saving_76 2 rfl 77 rfl ?_
          refine jj_iload_n hX dX7_saving_77 1 rfl 78 rfl ?_
          refine jj_isub hX dX7_saving_78 79 rfl ?_
          refine kmw_gives hX hK hD q1752 (Nat.le_of_ble_eq_true rfl) (Nat.le_of_ble_eq_true rfl) (Nat.zero_le _) (Nat.zero_le _) (Nat.le_of_ble_eq_true rfl) dX7_saving_79 82 rfl h (fun r79 u79 h => ?_)
          exact jj_reti (post := Post) (u := u79) hX dX7_saving_82 (Nat.le_refl 0) (Nat.le_refl 0) jm_hB h
        · have h := h.2 c63
          refine jj_aload_n hX dX7_saving_66 0 rfl 67 rfl ?_
          refine jj_bipush hX dX7_saving_67 cb_7 69 rfl ?_
          refine kmw_refuse hX hK hD q1702 (Nat.le_of_ble_eq_true rfl) (Nat.le_of_ble_eq_true rfl) (Nat.zero_le _) (Nat.zero_le _) (Nat.le_of_ble_eq_true rfl) dX7_saving_69 72 rfl h (fun r69 u69 h => ?_)
          refine jj_goto hX dX7_saving_72 82 (by decide) ?_
          exact jj_reti (post := Post) (u := u69) hX dX7_saving_82 (Nat.le_refl 0) (Nat.le_refl 0) jm_hB h
    · have h := h.2 c18
      refine jj_aload_n hX dX7_saving_21 0 rfl 22 rfl ?_
      refine jj_bipush hX dX7_saving_22 cb_6 24 rfl ?_
      refine kmw_refuse hX hK hD q1702 (Nat.le_of_ble_eq_true rfl) (Nat.le_of_ble_eq_true rfl) (Nat.zero_le _) (Nat.zero_le _) (Nat.le_of_ble_eq_true rfl) dX7_saving_24 27 rfl h (fun r24 u24 h => ?_)
      exact jj_reti (post := Post) (u := u24) hX dX7_saving_27 (Nat.le_refl 0) (Nat.le_refl 0) jm_hB h
  · have h := h.2 c5
    refine jj_aload_n hX dX7_saving_8 0 rfl 9 rfl ?_
    refine jj_iconst hX dX7_saving_9 ci_1 10 rfl ?_
    refine kmw_refuse hX hK hD q1702 (Nat.le_of_ble_eq_true rfl) (Nat.le_of_ble_eq_true rfl) (Nat.zero_le _) (Nat.zero_le _) (Nat.le_of_ble_eq_true rfl) dX7_saving_10 13 rfl h (fun r10 u10 h => ?_)
    exact jj_reti (post := Post) (u := u10) hX dX7_saving_13 (Nat.le_refl 0) (Nat.le_refl 0) jm_hB h
theorem hd_mw_saving : yX7_saving.cls = RX7 ∧ yX7_saving.cls ≠ "java/lang/invoke/MethodHandle" ∧ yX7_saving.cls ≠ "java/lang/invoke/VarHandle" ∧ (parseMethodDescriptor yX7_saving.desc).map (fun d => d.parameters.length) = some 1 := by decide +kernel
theorem kmw_saving {X : JC} {Q : State → Prop} {nL k n pc : Nat} {lv : List (Nat × Value)} {st : List Value} {own : String} {cc : ByteArray} {ret : Option FieldType} {F LL mc ms ix : Nat} {D : va_G} {dA ad : Nat → Nat} {x1 : Int32} {u : MS} {Post : Int32 → MS → Prop} (hX : JX X own cc nL ret F LL mc ms) (hK : KM D dA (jj_s X)) (hD : MD ad) (hlk : (Cond.methodLink own ix yX7_saving) ∈ lw_all) (hF : 7 + 1 ≤ F) (hL : 8 + (4 + 11) + 162 ≤ LL) (hk : k ≤ mc) (hk2 : n ≤ ms) (hw : (st.map fun v => v.category).sum ≤ 8) (d : decode cc pc = .ok (.invokevirtual ix, 3)) (q : Nat) (hq : pc + 3 = q) (h : mw_saving x1 u Post) (kk : ∀ (r : Int32) (u2 : MS), Post r u2 → JJ X (AM ad) Q nL (MW D dA ad u2) k n q lv (.int r :: st)) : JJ X (AM ad) Q nL (MW D dA ad u) k n pc lv (.int x1 :: .ref (ad 0) :: st) :=
  jm_calli (na := 1) (As := [.int x1]) hX hK (mmw_saving (jj_l X) D dA ad hD x1 u Post h) hlk q2028 q2029 q129 q2030 hd_mw_saving rfl rfl hw hF hL hk hk2 d q hq kk
def mw_cheapest_L42_S (Post : Int32 → MS → Prop) (R : Int32 → Int32 → Int32 → MS → Prop) (x1 : Int32) (x2 : Int32) (x3 : Int32) (u : MS) : Prop :=
  ((jm_i u 1 0) ≤ x3 →
    (¬ x1 = (-1 : Int32) →
      mw_gives x1 u (fun r133 u133 =>
        Post r133 u133)) ∧
    (x1 = (-1 : Int32) →
      mw_refuse (6 : Int32) u (fun r125 u125 =>
        Post r125 u125))) ∧
  (¬ (jm_i u 1 0) ≤ x3 →
    mw_isOut (jm_i u 1 6) x3 (fun r60 =>
      (r60 = 0 →
        mw_takesBy ((jm_i u 1 6) ||| ((1 : Int32) <<< (x3 &&& 31))) u (fun r81 u81 =>
          (r81 = (-1 : Int32) →
            ∀ v111 : Int32, v111 = x3 + (1 : Int32) →
            R x1 x2 v111 u81) ∧
          (¬ r81 = (-1 : Int32) →
            (x1 = (-1 : Int32) →
              ∀ v111 : Int32, v111 = x3 + (1 : Int32) →
              R x3 r81 v111 u81) ∧
            (¬ x1 = (-1 : Int32) →
              (r81 < x2 →
                ∀ v111 : Int32, v111 = x3 + (1 : Int32) →
                R x3 r81 v111 u81) ∧
              (¬ r81 < x2 →
                ∀ v111 : Int32, v111 = x3 + (1 : Int32) →
                R x1 x2 v111 u81))))) ∧
      (¬ r60 = 0 →
        ∀ v111 : Int32, v111 = x3 + (1 : Int32) →
        R x1 x2 v111 u)))
def mw_cheapest_L42 (Post : Int32 → MS → Prop) : Nat → Int32 → Int32 → Int32 → MS → Prop
  | 0 => fun _ _ _ _ => False
  | n + 1 => fun x1 x2 x3 u => mw_cheapest_L42_S Post (mw_cheapest_L42 Post n) x1 x2 x3 u
/-- RaisedPressModel.cheapest()I -/
def mw_cheapest (u : MS) (Post : Int32 → MS → Prop) : Prop :=
  mw_isSet u (fun r1 u1 =>
    (¬ r1 = 0 →
      mw_takesBy (jm_i u1 1 6) u1 (fun r22 u22 =>
        (¬ r22 = (-1 : Int32) →
          ∃ n, mw_cheapest_L42 Post n (-1 : Int32) (0 : Int32) (0 : Int32) u22) ∧
        (r22 = (-1 : Int32) →
          mw_refuse (7 : Int32) u22 (fun r32 u32 =>
            Post r32 u32)))) ∧
    (r1 = 0 →
      mw_refuse (6 : Int32) u1 (fun r10 u10 =>
        Post r10 u10)))
set_option maxHeartbeats 4000000 in
set_option maxRecDepth 100000 in
theorem tmw_cheapest_L42 {X : JC} {D : va_G} {dA ad : Nat → Nat} {Post : Int32 → MS → Prop} (hX : JX X yX7_cheapest.cls cX7_cheapest 5 (Option.some Jvm.ClassFile.FieldType.int) 7 162 0 0) (hK : KM D dA (jj_s X)) (hD : MD ad) : ∀ (n : Nat) (x1 : Int32) (x2 : Int32) (x3 : Int32) (u : MS), mw_cheapest_L42 Post n x1 x2 x3 u → JJ X (AM ad) (jj_Q X (va_Qi Post (jm_B D dA ad) (AM ad)) 0 0 (AM ad)) 5 (MW D dA ad u) 0 0 42 [(0, .ref (ad 0)), (1, .int x1), (2, .int x2), (3, .int x3)] [] := by
  intro n
  induction n with
  | zero =>
    intro x1 x2 x3 u h
    exact h.elim
  | succ n ih =>
    intro x1 x2 x3 u h
    have h : mw_cheapest_L42_S Post (mw_cheapest_L42 Post n) x1 x2 x3 u := h
    unfold mw_cheapest_L42_S at h
    refine jj_iload_n hX dX7_cheapest_42 3 rfl 43 rfl ?_
    refine jt_0 hX hK dX7_cheapest_43 0 rfl dX7_cheapest_44 q1484 47 rfl rfl ?_
    refine jj_iconst hX dX7_cheapest_47 ci_0 48 rfl ?_
    refine jr_1 hX hK 0 kc_0 vi_1_0 dX7_cheapest_48 49 rfl ?_
    refine jj_icmp_ge hX dX7_cheapest_49 117 52 (by decide) rfl (fun c49 => ?_) (fun c49 => ?_)
    · have h := h.1 c49
      refine jj_iload_n hX dX7_cheapest_117 1 rfl 118 rfl ?_
      refine jj_iconst hX dX7_cheapest_118 ci_m1 119 rfl ?_
      refine jj_icmp_ne hX dX7_cheapest_119 131 122 (by decide) rfl (fun c119 => ?_) (fun c119 => ?_)
      · have h := h.1 c119
        refine jj_aload_n hX dX7_cheapest_131 0 rfl 132 rfl ?_
        refine jj_iload_n hX dX7_cheapest_132 1 rfl 133 rfl ?_
        refine kmw_gives hX hK hD q1752 (Nat.le_of_ble_eq_true rfl) (Nat.le_of_ble_eq_true rfl) (Nat.zero_le _) (Nat.zero_le _) (Nat.le_of_ble_eq_true rfl) dX7_cheapest_133 136 rfl h (fun r133 u133 h => ?_)
        exact jj_reti (post := Post) (u := u133) hX dX7_cheapest_136 (Nat.le_refl 0) (Nat.le_refl 0) jm_hB h
      · have h := h.2 c119
        refine jj_aload_n hX dX7_cheapest_122 0 rfl 123 rfl ?_
        refine jj_bipush hX dX7_cheapest_123 cb_6 125 rfl ?_
        refine kmw_refuse hX hK hD q1702 (Nat.le_of_ble_eq_true rfl) (Nat.le_of_ble_eq_true rfl) (Nat.zero_le _) (Nat.zero_le _) (Nat.le_of_ble_eq_true rfl) dX7_cheapest_125 128 rfl h (fun r125 u125 h => ?_)
        refine jj_goto hX dX7_cheapest_128 136 (by decide) ?_
        exact jj_reti (post := Post) (u := u125) hX dX7_cheapest_136 (Nat.le_refl 0) (Nat.le_refl 0) jm_hB h
    · have h := h.2 c49
      refine jt_0 hX hK dX7_cheapest_52 0 rfl dX7_cheapest_53 q1484 56 rfl rfl ?_
      refine jj_bipush hX dX7_cheapest_56 cb_6 58 rfl ?_
      refine jr_1 hX hK 6 kc_6 vi_1_6 dX7_cheapest_58 59 rfl ?_
      refine jj_iload_n hX dX7_cheapest_59 3 rfl 60 rfl ?_
      refine kmw_isOut hX MW.keeps q1800 (Nat.le_of_ble_eq_true rfl) (Nat.le_of_ble_eq_true rfl) (Nat.zero_le _) (Nat.zero_le _) (Nat.le_of_ble_eq_true rfl) dX7_cheapest_60 63 rfl h (fun r60 hb60 h => ?_)
      refine jj_if_eq hX dX7_cheapest_63 69 66 (by decide) rfl (fun c63 => ?_) (fun c63 => ?_)
      · have h := h.1 c63
        refine jj_aload_n hX dX7_cheapest_69 0 rfl 70 rfl ?_
        refine jt_0 hX hK dX7_cheapest_70 0 rfl dX7_cheapest_71 q1484 74 rfl rfl ?_
        refine jj_bipush hX dX7_cheapest_74 cb_6 76 rfl ?_
        refine jr_1 hX hK 6 kc_6 vi_1_6 dX7_cheapest_76 77 rfl ?_
        refine jj_iconst hX dX7_cheapest_77 ci_1 78 rfl ?_
        refine jj_iload_n hX dX7_cheapest_78 3 rfl 79 rfl ?_
        refine jj_ishl hX dX7_cheapest_79 80 rfl ?_
        refine jj_ior hX dX7_cheapest_80 81 rfl ?_
        refine kmw_takesBy hX hK hD q2031 (Nat.le_of_ble_eq_true rfl) (Nat.le_of_ble_eq_true rfl) (Nat.zero_le _) (Nat.zero_le _) (Nat.le_of_ble_eq_true rfl) dX7_cheapest_81 84 rfl h (fun r81 u81 h => ?_)
        refine jj_istore (lv2 := [(0, .ref (ad 0)), (1, .int x1), (2, .int x2), (3, .int x3), (4, .int r81)]) hX dX7_cheapest_84 (Nat.le_of_ble_eq_true rfl) [1, 2, 3, 4, 0] rfl 86 rfl ?_
        refine jj_iload hX dX7_cheapest_86 4 rfl 88 rfl ?_
        refine jj_iconst hX dX7_cheapest_88 ci_m1 89 rfl ?_
        refine jj_icmp_eq hX dX7_cheapest_89 111 92 (by decide) rfl (fun c89 => ?_) (fun c89 => ?_)
        · have h := h.1 c89
          obtain ⟨v111, e111⟩ : ∃ y : Int32, y = x3 + (1 : Int32) := ⟨_, rfl⟩
          have h := h v111 e111
          refine jj_iinc (v := v111) (lv2 := [(0, .ref (ad 0)), (1, .int x1), (2, .int x2), (3, .int v111), (4, .int r81)]) hX dX7_cheapest_111 3 rfl (by rw [e111, ci_1]) (Nat.le_of_ble_eq_true rfl) [1, 2, 3, 0, 4] rfl 114 rfl ?_
          refine jj_goto hX dX7_cheapest_114 42 (by decide) ?_
          refine jj_sub (lv2 := [(0, .ref (ad 0)), (1, .int x1), (2, .int x2), (3, .int v111)]) [0, 1, 2, 3] rfl ?_
          exact ih _ _ _ _ h
        · have h := h.2 c89
          refine jj_iload_n hX dX7_cheapest_92 1 rfl 93 rfl ?_
          refine jj_iconst hX dX7_cheapest_93 ci_m1 94 rfl ?_
          refine jj_icmp_eq hX dX7_cheapest_94 106 97 (by decide) rfl (fun c94 => ?_) (fun c94 => ?_)
          · have h := h.1 c94
            refine jj_iload hX dX7_cheapest_106 4 rfl 108 rfl ?_
            refine jj_istore_n (lv2 := [(0, .ref (ad 0)), (2, .int r81), (3, .int x3)]) hX dX7_cheapest_108 (Nat.le_of_ble_eq_true rfl) [1, 0, 3] rfl 109 rfl ?_
            refine jj_iload_n hX dX7_cheapest_109 2 rfl 110 rfl ?_
            refine jj_istore_n (lv2 := [(0, .ref (ad 0)), (1, .int x3), (2, .int r81), (3, .int x3)]) hX dX7_cheapest_110 (Nat.le_of_ble_eq_true rfl) [1, 0, 2, 3] rfl 111 rfl ?_
            obtain ⟨v111, e111⟩ : ∃ y : Int32, y = x3 + (1 : Int32) := ⟨_, rfl⟩
            have h := h v111 e111
            refine jj_iinc (v := v111) (lv2 := [(0, .ref (ad 0)), (1, .int x3), (2, .int r81), (3, .int v111)]) hX dX7_cheapest_111 3 rfl (by rw [e111, ci_1]) (Nat.le_of_ble_eq_true rfl) [1, 2, 3, 0] rfl 114 rfl ?_
            refine jj_goto hX dX7_cheapest_114 42 (by decide) ?_
            exact ih _ _ _ _ h
          · have h := h.2 c94
            refine jj_iload hX dX7_cheapest_97 4 rfl 99 rfl ?_
            refine jj_iload_n hX dX7_cheapest_99 2 rfl 100 rfl ?_
            refine jj_icmp_lt hX dX7_cheapest_100 106 103 (by decide) rfl (fun c100 => ?_) (fun c100 => ?_)
            · have h := h.1 c100
              refine jj_iload hX dX7_cheapest_106 4 rfl 108 rfl ?_
              refine jj_istore_n (lv2 := [(0, .ref (ad 0)), (2, .int r81), (3, .int x3)]) hX dX7_cheapest_108 (Nat.le_of_ble_eq_true rfl) [1, 0, 3] rfl 109 rfl ?_
              refine jj_iload_n hX dX7_cheapest_109 2 rfl 110 rfl ?_
              refine jj_istore_n (lv2 := [(0, .ref (ad 0)), (1, .int x3), (2, .int r81), (3, .int x3)]) hX dX7_cheapest_110 (Nat.le_of_ble_eq_true rfl) [1, 0, 2, 3] rfl 111 rfl ?_
              obtain ⟨v111, e111⟩ : ∃ y : Int32, y = x3 + (1 : Int32) := ⟨_, rfl⟩
              have h := h v111 e111
              refine jj_iinc (v := v111) (lv2 := [(0, .ref (ad 0)), (1, .int x3), (2, .int r81), (3, .int v111)]) hX dX7_cheapest_111 3 rfl (by rw [e111, ci_1]) (Nat.le_of_ble_eq_true rfl) [1, 2, 3, 0] rfl 114 rfl ?_
              refine jj_goto hX dX7_cheapest_114 42 (by decide) ?_
              exact ih _ _ _ _ h
            · have h := h.2 c100
              refine jj_goto hX dX7_cheapest_103 111 (by decide) ?_
              obtain ⟨v111, e111⟩ : ∃ y : Int32, y = x3 + (1 : Int32) := ⟨_, rfl⟩
              have h := h v111 e111
              refine jj_iinc (v := v111) (lv2 := [(0, .ref (ad 0)), (1, .int x1), (2, .int x2), (3, .int v111), (4, .int r81)]) hX dX7_cheapest_111 3 rfl (by rw [e111, ci_1]) (Nat.le_of_ble_eq_true rfl) [1, 2, 3, 0, 4] rfl 114 rfl ?_
              refine jj_goto hX dX7_cheapest_114 42 (by decide) ?_
              refine jj_sub (lv2 := [(0, .ref (ad 0)), (1, .int x1), (2, .int x2), (3, .int v111)]) [0, 1, 2, 3] rfl ?_
              exact ih _ _ _ _ h
      · have h := h.2 c63
        refine jj_goto hX dX7_cheapest_66 111 (by decide) ?_
        obtain ⟨v111, e111⟩ : ∃ y : Int32, y = x3 + (1 : Int32) := ⟨_, rfl⟩
        have h := h v111 e111
        refine jj_iinc (v := v111) (lv2 := [(0, .ref (ad 0)), (1, .int x1), (2, .int x2), (3, .int v111)]) hX dX7_cheapest_111 3 rfl (by rw [e111, ci_1]) (Nat.le_of_ble_eq_true rfl) [1, 2, 3, 0] rfl 114 rfl ?_
        refine jj_goto hX dX7_cheapest_114 42 (by decide) ?_
        exact ih _ _ _ _ h
set_option maxHeartbeats 4000000 in
set_option maxRecDepth 100000 in
theorem mmw_cheapest (l : Launch) (D : va_G) (dA ad : Nat → Nat) (hD : MD ad) (u : MS) (Post : Int32 → MS → Prop) (h : mw_cheapest  u Post) : Met l yX7_cheapest (ws_ yX7_cheapest cX7_cheapest 5 (Option.some Jvm.ClassFile.FieldType.int)) (jm_rm 7 162) (jm_Pc D dA ad u []) (va_Qi Post (jm_B D dA ad) (AM ad)) 0 0 (AM ad) := by
  refine jm_start [] [(0, .ref (ad 0))] (by decide) (Nat.le_of_ble_eq_true rfl) rfl (fun X hX hK => ?_)
  unfold mw_cheapest at h
  refine jj_aload_n hX dX7_cheapest_0 0 rfl 1 rfl ?_
  refine kmw_isSet hX hK hD q1864 (Nat.le_of_ble_eq_true rfl) (Nat.le_of_ble_eq_true rfl) (Nat.zero_le _) (Nat.zero_le _) (Nat.le_of_ble_eq_true rfl) dX7_cheapest_1 4 rfl h (fun r1 u1 hb1 h => ?_)
  refine jj_if_ne hX dX7_cheapest_4 14 7 (by decide) rfl (fun c4 => ?_) (fun c4 => ?_)
  · have h := h.1 c4
    refine jj_aload_n hX dX7_cheapest_14 0 rfl 15 rfl ?_
    refine jt_0 hX hK dX7_cheapest_15 0 rfl dX7_cheapest_16 q1484 19 rfl rfl ?_
    refine jj_bipush hX dX7_cheapest_19 cb_6 21 rfl ?_
    refine jr_1 hX hK 6 kc_6 vi_1_6 dX7_cheapest_21 22 rfl ?_
    refine kmw_takesBy hX hK hD q2031 (Nat.le_of_ble_eq_true rfl) (Nat.le_of_ble_eq_true rfl) (Nat.zero_le _) (Nat.zero_le _) (Nat.le_of_ble_eq_true rfl) dX7_cheapest_22 25 rfl h (fun r22 u22 h => ?_)
    refine jj_iconst hX dX7_cheapest_25 ci_m1 26 rfl ?_
    refine jj_icmp_ne hX dX7_cheapest_26 36 29 (by decide) rfl (fun c26 => ?_) (fun c26 => ?_)
    · have h := h.1 c26
      refine jj_iconst hX dX7_cheapest_36 ci_m1 37 rfl ?_
      refine jj_istore_n (lv2 := [(0, .ref (ad 0)), (1, .int (-1 : Int32))]) hX dX7_cheapest_37 (Nat.le_of_ble_eq_true rfl) [1, 0] rfl 38 rfl ?_
      refine jj_iconst hX dX7_cheapest_38 ci_0 39 rfl ?_
      refine jj_istore_n (lv2 := [(0, .ref (ad 0)), (1, .int (-1 : Int32)), (2, .int (0 : Int32))]) hX dX7_cheapest_39 (Nat.le_of_ble_eq_true rfl) [1, 2, 0] rfl 40 rfl ?_
      refine jj_iconst hX dX7_cheapest_40 ci_0 41 rfl ?_
      refine jj_istore_n (lv2 := [(0, .ref (ad 0)), (1, .int (-1 : Int32)), (2, .int (0 : Int32)), (3, .int (0 : Int32))]) hX dX7_cheapest_41 (Nat.le_of_ble_eq_true rfl) [1, 2, 3, 0] rfl 42 rfl ?_
      obtain ⟨n9, h⟩ := h
      exact tmw_cheapest_L42 hX hK hD n9 _ _ _ _ h
    · have h := h.2 c26
      refine jj_aload_n hX dX7_cheapest_29 0 rfl 30 rfl ?_
      refine jj_bipush hX dX7_cheapest_30 cb_7 32 rfl ?_
      refine kmw_refuse hX hK hD q1702 (Nat.le_of_ble_eq_true rfl) (Nat.le_of_ble_eq_true rfl) (Nat.zero_le _) (Nat.zero_le _) (Nat.le_of_ble_eq_true rfl) dX7_cheapest_32 35 rfl h (fun r32 u32 h => ?_)
      exact jj_reti (post := Post) (u := u32) hX dX7_cheapest_35 (Nat.le_refl 0) (Nat.le_refl 0) jm_hB h
  · have h := h.2 c4
    refine jj_aload_n hX dX7_cheapest_7 0 rfl 8 rfl ?_
    refine jj_bipush hX dX7_cheapest_8 cb_6 10 rfl ?_
    refine kmw_refuse hX hK hD q1702 (Nat.le_of_ble_eq_true rfl) (Nat.le_of_ble_eq_true rfl) (Nat.zero_le _) (Nat.zero_le _) (Nat.le_of_ble_eq_true rfl) dX7_cheapest_10 13 rfl h (fun r10 u10 h => ?_)
    exact jj_reti (post := Post) (u := u10) hX dX7_cheapest_13 (Nat.le_refl 0) (Nat.le_refl 0) jm_hB h
theorem hd_mw_cheapest : yX7_cheapest.cls = RX7 ∧ yX7_cheapest.cls ≠ "java/lang/invoke/MethodHandle" ∧ yX7_cheapest.cls ≠ "java/lang/invoke/VarHandle" ∧ (parseMethodDescriptor yX7_cheapest.desc).map (fun d => d.parameters.length) = some 0 := by decide +kernel
theorem kmw_cheapest {X : JC} {Q : State → Prop} {nL k n pc : Nat} {lv : List (Nat × Value)} {st : List Value} {own : String} {cc : ByteArray} {ret : Option FieldType} {F LL mc ms ix : Nat} {D : va_G} {dA ad : Nat → Nat} {u : MS} {Post : Int32 → MS → Prop} (hX : JX X own cc nL ret F LL mc ms) (hK : KM D dA (jj_s X)) (hD : MD ad) (hlk : (Cond.methodLink own ix yX7_cheapest) ∈ lw_all) (hF : 7 + 1 ≤ F) (hL : 8 + (5 + 11) + 162 ≤ LL) (hk : k ≤ mc) (hk2 : n ≤ ms) (hw : (st.map fun v => v.category).sum ≤ 8) (d : decode cc pc = .ok (.invokevirtual ix, 3)) (q : Nat) (hq : pc + 3 = q) (h : mw_cheapest  u Post) (kk : ∀ (r : Int32) (u2 : MS), Post r u2 → JJ X (AM ad) Q nL (MW D dA ad u2) k n q lv (.int r :: st)) : JJ X (AM ad) Q nL (MW D dA ad u) k n pc lv (.ref (ad 0) :: st) :=
  jm_calli (na := 0) (As := []) hX hK (mmw_cheapest (jj_l X) D dA ad hD  u Post h) hlk q2036 q2037 q129 q2038 hd_mw_cheapest rfl rfl hw hF hL hk hk2 d q hq kk
def mw_wrongRow_L47_S (Post : Int32 → MS → Prop) (x1 : Int32) (x2 : Int32) (x3 : Int32) (R : Int32 → MS → Prop) (x4 : Int32) (u : MS) : Prop :=
  (x2 ≤ x4 →
    Post (0 : Int32) u) ∧
  (¬ x2 ≤ x4 →
    vp_in (((60 : Int32) * x1) + x4) 240 ∧
    mw_isFrom (jm_l u 4 (((60 : Int32) * x1) + x4).toNatClampNeg) x3.toInt64 (63 : Int64) (fun r70 =>
      (¬ r70 = 0 →
        ∀ v78 : Int32, v78 = x4 + (1 : Int32) →
        R v78 u) ∧
      (r70 = 0 →
        Post (5 : Int32) u)))
def mw_wrongRow_L47 (Post : Int32 → MS → Prop) (x1 : Int32) (x2 : Int32) (x3 : Int32) : Nat → Int32 → MS → Prop
  | 0 => fun _ _ => False
  | n + 1 => fun x4 u => mw_wrongRow_L47_S Post x1 x2 x3 (mw_wrongRow_L47 Post x1 x2 x3 n) x4 u
/-- RaisedPressModel.wrongRow(III)I -/
def mw_wrongRow (x1 : Int32) (x2 : Int32) (x3 : Int32) (u : MS) (Post : Int32 → MS → Prop) : Prop :=
  mw_isTray x1 (fun r1 =>
    (r1 = 0 →
      Post (1 : Int32) u) ∧
    (¬ r1 = 0 →
      (x2 < (1 : Int32) →
        Post (1 : Int32) u) ∧
      (¬ x2 < (1 : Int32) →
        (x2 ≤ (20 : Int32) →
          vp_in x1 4 ∧
          (¬ (jm_i u 3 x1.toNatClampNeg) = (-1 : Int32) →
            vp_in x1 4 ∧
            (x2 ≤ (jm_i u 3 x1.toNatClampNeg) →
              ∃ n, mw_wrongRow_L47 Post x1 x2 x3 n (0 : Int32) u) ∧
            (¬ x2 ≤ (jm_i u 3 x1.toNatClampNeg) →
              Post (3 : Int32) u)) ∧
          ((jm_i u 3 x1.toNatClampNeg) = (-1 : Int32) →
            Post (2 : Int32) u)) ∧
        (¬ x2 ≤ (20 : Int32) →
          Post (1 : Int32) u))))
set_option maxHeartbeats 4000000 in
set_option maxRecDepth 100000 in
theorem tmw_wrongRow_L47 {X : JC} {D : va_G} {dA ad : Nat → Nat} {Post : Int32 → MS → Prop} {x1 : Int32} {x2 : Int32} {x3 : Int32} (hX : JX X yX7_wrongRow.cls cX7_wrongRow 5 (Option.some Jvm.ClassFile.FieldType.int) 1 25 0 0) (hK : KM D dA (jj_s X)) (hD : MD ad) : ∀ (n : Nat) (x4 : Int32) (u : MS), mw_wrongRow_L47 Post x1 x2 x3 n x4 u → JJ X (AM ad) (jj_Q X (va_Qi Post (jm_B D dA ad) (AM ad)) 0 0 (AM ad)) 5 (MW D dA ad u) 0 0 47 [(0, .ref (ad 0)), (1, .int x1), (2, .int x2), (3, .int x3), (4, .int x4)] [] := by
  intro n
  induction n with
  | zero =>
    intro x4 u h
    exact h.elim
  | succ n ih =>
    intro x4 u h
    have h : mw_wrongRow_L47_S Post x1 x2 x3 (mw_wrongRow_L47 Post x1 x2 x3 n) x4 u := h
    unfold mw_wrongRow_L47_S at h
    refine jj_iload hX dX7_wrongRow_47 4 rfl 49 rfl ?_
    refine jj_iload_n hX dX7_wrongRow_49 2 rfl 50 rfl ?_
    refine jj_icmp_ge hX dX7_wrongRow_50 84 53 (by decide) rfl (fun c50 => ?_) (fun c50 => ?_)
    · have h := h.1 c50
      refine jj_iconst hX dX7_wrongRow_84 ci_0 85 rfl ?_
      exact jj_reti (post := Post) (u := u) hX dX7_wrongRow_85 (Nat.le_refl 0) (Nat.le_refl 0) jm_hB h
    · have h := h.2 c50
      refine jt_6 hX hK dX7_wrongRow_53 0 rfl dX7_wrongRow_54 q1490 57 rfl rfl ?_
      refine jj_bipush hX dX7_wrongRow_57 cb_60 59 rfl ?_
      refine jj_iload_n hX dX7_wrongRow_59 1 rfl 60 rfl ?_
      refine jj_imul hX dX7_wrongRow_60 61 rfl ?_
      refine jj_iload hX dX7_wrongRow_61 4 rfl 63 rfl ?_
      refine jj_iadd hX dX7_wrongRow_63 64 rfl ?_
      obtain ⟨hi64, h⟩ := h
      refine jr_4 hX hK _ rfl hi64 dX7_wrongRow_64 65 rfl ?_
      refine jj_iload_n hX dX7_wrongRow_65 3 rfl 66 rfl ?_
      refine jj_i2l hX dX7_wrongRow_66 67 rfl ?_
      refine jj_ldc2 (v := 63) hX dX7_wrongRow_67 q1968 70 rfl ?_
      refine kmw_isFrom hX MW.keeps q1944 (Nat.le_of_ble_eq_true rfl) (Nat.le_of_ble_eq_true rfl) (Nat.zero_le _) (Nat.zero_le _) (Nat.le_of_ble_eq_true rfl) dX7_wrongRow_70 73 rfl h (fun r70 hb70 h => ?_)
      refine jj_if_ne hX dX7_wrongRow_73 78 76 (by decide) rfl (fun c73 => ?_) (fun c73 => ?_)
      · have h := h.1 c73
        obtain ⟨v78, e78⟩ : ∃ y : Int32, y = x4 + (1 : Int32) := ⟨_, rfl⟩
        have h := h v78 e78
        refine jj_iinc (v := v78) (lv2 := [(0, .ref (ad 0)), (1, .int x1), (2, .int x2), (3, .int x3), (4, .int v78)]) hX dX7_wrongRow_78 4 rfl (by rw [e78, ci_1]) (Nat.le_of_ble_eq_true rfl) [1, 2, 3, 4, 0] rfl 81 rfl ?_
        refine jj_goto hX dX7_wrongRow_81 47 (by decide) ?_
        exact ih _ _ h
      · have h := h.2 c73
        refine jj_iconst hX dX7_wrongRow_76 ci_5 77 rfl ?_
        exact jj_reti (post := Post) (u := u) hX dX7_wrongRow_77 (Nat.le_refl 0) (Nat.le_refl 0) jm_hB h
set_option maxHeartbeats 4000000 in
set_option maxRecDepth 100000 in
theorem mmw_wrongRow (l : Launch) (D : va_G) (dA ad : Nat → Nat) (hD : MD ad) (x1 : Int32) (x2 : Int32) (x3 : Int32) (u : MS) (Post : Int32 → MS → Prop) (h : mw_wrongRow x1 x2 x3 u Post) : Met l yX7_wrongRow (ws_ yX7_wrongRow cX7_wrongRow 5 (Option.some Jvm.ClassFile.FieldType.int)) (jm_rm 1 25) (jm_Pc D dA ad u [.int x1, .int x2, .int x3]) (va_Qi Post (jm_B D dA ad) (AM ad)) 0 0 (AM ad) := by
  refine jm_start [.int x1, .int x2, .int x3] [(0, .ref (ad 0)), (1, .int x1), (2, .int x2), (3, .int x3)] (by decide) (Nat.le_of_ble_eq_true rfl) rfl (fun X hX hK => ?_)
  unfold mw_wrongRow at h
  refine jj_iload_n hX dX7_wrongRow_0 1 rfl 1 rfl ?_
  refine kmw_isTray hX MW.keeps q1639 (Nat.le_of_ble_eq_true rfl) (Nat.le_of_ble_eq_true rfl) (Nat.zero_le _) (Nat.zero_le _) (Nat.le_of_ble_eq_true rfl) dX7_wrongRow_1 4 rfl h (fun r1 hb1 h => ?_)
  refine jj_if_eq hX dX7_wrongRow_4 18 7 (by decide) rfl (fun c4 => ?_) (fun c4 => ?_)
  · have h := h.1 c4
    refine jj_iconst hX dX7_wrongRow_18 ci_1 19 rfl ?_
    exact jj_reti (post := Post) (u := u) hX dX7_wrongRow_19 (Nat.le_refl 0) (Nat.le_refl 0) jm_hB h
  · have h := h.2 c4
    refine jj_iload_n hX dX7_wrongRow_7 2 rfl 8 rfl ?_
    refine jj_iconst hX dX7_wrongRow_8 ci_1 9 rfl ?_
    refine jj_icmp_lt hX dX7_wrongRow_9 18 12 (by decide) rfl (fun c9 => ?_) (fun c9 => ?_)
    · have h := h.1 c9
      refine jj_iconst hX dX7_wrongRow_18 ci_1 19 rfl ?_
      exact jj_reti (post := Post) (u := u) hX dX7_wrongRow_19 (Nat.le_refl 0) (Nat.le_refl 0) jm_hB h
    · have h := h.2 c9
      refine jj_iload_n hX dX7_wrongRow_12 2 rfl 13 rfl ?_
      refine jj_bipush hX dX7_wrongRow_13 cb_20 15 rfl ?_
      refine jj_icmp_le hX dX7_wrongRow_15 20 18 (by decide) rfl (fun c15 => ?_) (fun c15 => ?_)
      · have h := h.1 c15
        refine jt_5 hX hK dX7_wrongRow_20 0 rfl dX7_wrongRow_21 q1489 24 rfl rfl ?_
        refine jj_iload_n hX dX7_wrongRow_24 1 rfl 25 rfl ?_
        obtain ⟨hi25, h⟩ := h
        refine jr_3 hX hK _ rfl hi25 dX7_wrongRow_25 26 rfl ?_
        refine jj_iconst hX dX7_wrongRow_26 ci_m1 27 rfl ?_
        refine jj_icmp_ne hX dX7_wrongRow_27 32 30 (by decide) rfl (fun c27 => ?_) (fun c27 => ?_)
        · have h := h.1 c27
          refine jt_5 hX hK dX7_wrongRow_32 0 rfl dX7_wrongRow_33 q1489 36 rfl rfl ?_
          refine jj_iload_n hX dX7_wrongRow_36 1 rfl 37 rfl ?_
          obtain ⟨hi37, h⟩ := h
          refine jr_3 hX hK _ rfl hi37 dX7_wrongRow_37 38 rfl ?_
          refine jj_iload_n hX dX7_wrongRow_38 2 rfl 39 rfl ?_
          refine jj_icmp_ge hX dX7_wrongRow_39 44 42 (by decide) rfl (fun c39 => ?_) (fun c39 => ?_)
          · have h := h.1 c39
            refine jj_iconst hX dX7_wrongRow_44 ci_0 45 rfl ?_
            refine jj_istore (lv2 := [(0, .ref (ad 0)), (1, .int x1), (2, .int x2), (3, .int x3), (4, .int (0 : Int32))]) hX dX7_wrongRow_45 (Nat.le_of_ble_eq_true rfl) [1, 2, 3, 4, 0] rfl 47 rfl ?_
            obtain ⟨n9, h⟩ := h
            exact tmw_wrongRow_L47 hX hK hD n9 _ _ h
          · have h := h.2 c39
            refine jj_iconst hX dX7_wrongRow_42 ci_3 43 rfl ?_
            exact jj_reti (post := Post) (u := u) hX dX7_wrongRow_43 (Nat.le_refl 0) (Nat.le_refl 0) jm_hB h
        · have h := h.2 c27
          refine jj_iconst hX dX7_wrongRow_30 ci_2 31 rfl ?_
          exact jj_reti (post := Post) (u := u) hX dX7_wrongRow_31 (Nat.le_refl 0) (Nat.le_refl 0) jm_hB h
      · have h := h.2 c15
        refine jj_iconst hX dX7_wrongRow_18 ci_1 19 rfl ?_
        exact jj_reti (post := Post) (u := u) hX dX7_wrongRow_19 (Nat.le_refl 0) (Nat.le_refl 0) jm_hB h
theorem hd_mw_wrongRow : yX7_wrongRow.cls = RX7 ∧ yX7_wrongRow.cls ≠ "java/lang/invoke/MethodHandle" ∧ yX7_wrongRow.cls ≠ "java/lang/invoke/VarHandle" ∧ (parseMethodDescriptor yX7_wrongRow.desc).map (fun d => d.parameters.length) = some 3 := by decide +kernel
theorem kmw_wrongRow {X : JC} {Q : State → Prop} {nL k n pc : Nat} {lv : List (Nat × Value)} {st : List Value} {own : String} {cc : ByteArray} {ret : Option FieldType} {F LL mc ms ix : Nat} {D : va_G} {dA ad : Nat → Nat} {x1 : Int32} {x2 : Int32} {x3 : Int32} {u : MS} {Post : Int32 → MS → Prop} (hX : JX X own cc nL ret F LL mc ms) (hK : KM D dA (jj_s X)) (hD : MD ad) (hlk : (Cond.methodLink own ix yX7_wrongRow) ∈ lw_all) (hF : 1 + 1 ≤ F) (hL : 8 + (5 + 11) + 25 ≤ LL) (hk : k ≤ mc) (hk2 : n ≤ ms) (hw : (st.map fun v => v.category).sum ≤ 8) (d : decode cc pc = .ok (.invokevirtual ix, 3)) (q : Nat) (hq : pc + 3 = q) (h : mw_wrongRow x1 x2 x3 u Post) (kk : ∀ (r : Int32) (u2 : MS), Post r u2 → JJ X (AM ad) Q nL (MW D dA ad u2) k n q lv (.int r :: st)) : JJ X (AM ad) Q nL (MW D dA ad u) k n pc lv (.int x3 :: .int x2 :: .int x1 :: .ref (ad 0) :: st) :=
  jm_calli (na := 3) (As := [.int x1, .int x2, .int x3]) hX hK (mmw_wrongRow (jj_l X) D dA ad hD x1 x2 x3 u Post h) hlk q2045 qs103 q129 q2046 hd_mw_wrongRow rfl rfl hw hF hL hk hk2 d q hq kk
def mw_laysRow_L2_S (Post : MS → Prop) (x1 : Int32) (x2 : Int32) (R : Int32 → MS → Prop) (x3 : Int32) (u : MS) : Prop :=
  (x2 ≤ x3 →
    Post u) ∧
  (¬ x2 ≤ x3 →
    vp_in (((60 : Int32) * x1) + x3) 240 ∧
    vp_in x3 20 ∧
    ∀ u24 : MS, u24 = jm_s u 14 x3.toNatClampNeg (jm_l u 4 (((60 : Int32) * x1) + x3).toNatClampNeg).toInt32 →
    vp_in x3 20 ∧
    ∀ u31 : MS, u31 = jm_s u24 15 x3.toNatClampNeg (0 : Int32) →
    ∀ v32 : Int32, v32 = x3 + (1 : Int32) →
    R v32 u31)
def mw_laysRow_L2 (Post : MS → Prop) (x1 : Int32) (x2 : Int32) : Nat → Int32 → MS → Prop
  | 0 => fun _ _ => False
  | n + 1 => fun x3 u => mw_laysRow_L2_S Post x1 x2 (mw_laysRow_L2 Post x1 x2 n) x3 u
/-- RaisedPressModel.laysRow(II)V -/
def mw_laysRow (x1 : Int32) (x2 : Int32) (u : MS) (Post : MS → Prop) : Prop :=
  ∃ n, mw_laysRow_L2 Post x1 x2 n (0 : Int32) u
set_option maxHeartbeats 4000000 in
set_option maxRecDepth 100000 in
theorem tmw_laysRow_L2 {X : JC} {D : va_G} {dA ad : Nat → Nat} {Post : MS → Prop} {x1 : Int32} {x2 : Int32} (hX : JX X yX7_laysRow.cls cX7_laysRow 4 (Option.none : Option Jvm.ClassFile.FieldType) 0 0 0 0) (hK : KM D dA (jj_s X)) (hD : MD ad) : ∀ (n : Nat) (x3 : Int32) (u : MS), mw_laysRow_L2 Post x1 x2 n x3 u → JJ X (AM ad) (jj_Q X (va_Qv Post (jm_B D dA ad) (AM ad)) 0 0 (AM ad)) 4 (MW D dA ad u) 0 0 2 [(0, .ref (ad 0)), (1, .int x1), (2, .int x2), (3, .int x3)] [] := by
  intro n
  induction n with
  | zero =>
    intro x3 u h
    exact h.elim
  | succ n ih =>
    intro x3 u h
    have h : mw_laysRow_L2_S Post x1 x2 (mw_laysRow_L2 Post x1 x2 n) x3 u := h
    unfold mw_laysRow_L2_S at h
    refine jj_iload_n hX dX7_laysRow_2 3 rfl 3 rfl ?_
    refine jj_iload_n hX dX7_laysRow_3 2 rfl 4 rfl ?_
    refine jj_icmp_ge hX dX7_laysRow_4 38 7 (by decide) rfl (fun c4 => ?_) (fun c4 => ?_)
    · have h := h.1 c4
      exact jj_retv hX dX7_laysRow_38 (Nat.le_refl 0) (Nat.le_refl 0) jm_hB h
    · have h := h.2 c4
      refine jt_32 hX hK dX7_laysRow_7 0 rfl dX7_laysRow_8 q1516 11 rfl rfl ?_
      refine jj_iload_n hX dX7_laysRow_11 3 rfl 12 rfl ?_
      refine jt_6 hX hK dX7_laysRow_12 0 rfl dX7_laysRow_13 q1490 16 rfl rfl ?_
      refine jj_bipush hX dX7_laysRow_16 cb_60 18 rfl ?_
      refine jj_iload_n hX dX7_laysRow_18 1 rfl 19 rfl ?_
      refine jj_imul hX dX7_laysRow_19 20 rfl ?_
      refine jj_iload_n hX dX7_laysRow_20 3 rfl 21 rfl ?_
      refine jj_iadd hX dX7_laysRow_21 22 rfl ?_
      obtain ⟨hi22, h⟩ := h
      refine jr_4 hX hK _ rfl hi22 dX7_laysRow_22 23 rfl ?_
      refine jj_l2i hX dX7_laysRow_23 24 rfl ?_
      obtain ⟨hi24, h⟩ := h
      refine jw_14 hX hK hD _ rfl hi24 dX7_laysRow_24 25 rfl (fun u24 e24 => ?_)
      have h := h u24 e24
      refine jt_33 hX hK dX7_laysRow_25 0 rfl dX7_laysRow_26 q1517 29 rfl rfl ?_
      refine jj_iload_n hX dX7_laysRow_29 3 rfl 30 rfl ?_
      refine jj_iconst hX dX7_laysRow_30 ci_0 31 rfl ?_
      obtain ⟨hi31, h⟩ := h
      refine jw_15 hX hK hD _ rfl hi31 dX7_laysRow_31 32 rfl (fun u31 e31 => ?_)
      have h := h u31 e31
      obtain ⟨v32, e32⟩ : ∃ y : Int32, y = x3 + (1 : Int32) := ⟨_, rfl⟩
      have h := h v32 e32
      refine jj_iinc (v := v32) (lv2 := [(0, .ref (ad 0)), (1, .int x1), (2, .int x2), (3, .int v32)]) hX dX7_laysRow_32 3 rfl (by rw [e32, ci_1]) (Nat.le_of_ble_eq_true rfl) [1, 2, 3, 0] rfl 35 rfl ?_
      refine jj_goto hX dX7_laysRow_35 2 (by decide) ?_
      exact ih _ _ h
set_option maxHeartbeats 4000000 in
set_option maxRecDepth 100000 in
theorem mmw_laysRow (l : Launch) (D : va_G) (dA ad : Nat → Nat) (hD : MD ad) (x1 : Int32) (x2 : Int32) (u : MS) (Post : MS → Prop) (h : mw_laysRow x1 x2 u Post) : Met l yX7_laysRow (ws_ yX7_laysRow cX7_laysRow 4 (Option.none : Option Jvm.ClassFile.FieldType)) (jm_rm 0 0) (jm_Pc D dA ad u [.int x1, .int x2]) (va_Qv Post (jm_B D dA ad) (AM ad)) 0 0 (AM ad) := by
  refine jm_start [.int x1, .int x2] [(0, .ref (ad 0)), (1, .int x1), (2, .int x2)] (by decide) (Nat.le_of_ble_eq_true rfl) rfl (fun X hX hK => ?_)
  unfold mw_laysRow at h
  refine jj_iconst hX dX7_laysRow_0 ci_0 1 rfl ?_
  refine jj_istore_n (lv2 := [(0, .ref (ad 0)), (1, .int x1), (2, .int x2), (3, .int (0 : Int32))]) hX dX7_laysRow_1 (Nat.le_of_ble_eq_true rfl) [1, 2, 3, 0] rfl 2 rfl ?_
  obtain ⟨n9, h⟩ := h
  exact tmw_laysRow_L2 hX hK hD n9 _ _ h
theorem hd_mw_laysRow : yX7_laysRow.cls = RX7 ∧ yX7_laysRow.cls ≠ "java/lang/invoke/MethodHandle" ∧ yX7_laysRow.cls ≠ "java/lang/invoke/VarHandle" ∧ (parseMethodDescriptor yX7_laysRow.desc).map (fun d => d.parameters.length) = some 2 := by decide +kernel
theorem kmw_laysRow {X : JC} {Q : State → Prop} {nL k n pc : Nat} {lv : List (Nat × Value)} {st : List Value} {own : String} {cc : ByteArray} {ret : Option FieldType} {F LL mc ms ix : Nat} {D : va_G} {dA ad : Nat → Nat} {x1 : Int32} {x2 : Int32} {u : MS} {Post : MS → Prop} (hX : JX X own cc nL ret F LL mc ms) (hK : KM D dA (jj_s X)) (hD : MD ad) (hlk : (Cond.methodLink own ix yX7_laysRow) ∈ lw_all) (hF : 0 + 1 ≤ F) (hL : 8 + (4 + 11) + 0 ≤ LL) (hk : k ≤ mc) (hk2 : n ≤ ms) (hw : (st.map fun v => v.category).sum ≤ 8) (d : decode cc pc = .ok (.invokevirtual ix, 3)) (q : Nat) (hq : pc + 3 = q) (h : mw_laysRow x1 x2 u Post) (kk : ∀ u2 : MS, Post u2 → JJ X (AM ad) Q nL (MW D dA ad u2) k n q lv st) : JJ X (AM ad) Q nL (MW D dA ad u) k n pc lv (.int x2 :: .int x1 :: .ref (ad 0) :: st) :=
  jm_callv (na := 2) (As := [.int x1, .int x2]) hX hK (mmw_laysRow (jj_l X) D dA ad hD x1 x2 u Post h) hlk q2049 qs104 q129 q2050 hd_mw_laysRow rfl rfl hw hF hL hk hk2 d q hq kk
def mw_reads_B102 (Post : Int32 → MS → Prop) (x1 : Int32) (x2 : Int32) (x3 : Int32) (s0 : Int32) (s1 : Int32) (u : MS) : Prop :=
  mw_cellsOf x1 u (fun r105 u105 =>
    (¬ (x2 + r105) = x3 →
      mw_holds s1 s0 (0 : Int32) (fun r118 =>
        Post r118 u105)) ∧
    ((x2 + r105) = x3 →
      mw_holds s1 s0 (1 : Int32) (fun r118 =>
        Post r118 u105)))
def mw_reads_L30_S (Post : Int32 → MS → Prop) (x1 : Int32) (x2 : Int32) (x3 : Int32) (R : Int32 → MS → Prop) (x4 : Int32) (u : MS) : Prop :=
  mw_cellsOf x1 u (fun r34 u34 =>
    (r34 ≤ x4 →
      mw_ruleAt (0 : Int32) x1 (fun r86 =>
        vp_in (r86 + (11 : Int32)) 19800 ∧
        (¬ x2 = 0 →
          mw_reads_B102 Post x1 x2 x3 (0 : Int32) (jm_i u34 1 (r86 + (11 : Int32)).toNatClampNeg) u34) ∧
        (x2 = 0 →
          mw_reads_B102 Post x1 x2 x3 (1 : Int32) (jm_i u34 1 (r86 + (11 : Int32)).toNatClampNeg) u34))) ∧
    (¬ r34 ≤ x4 →
      mw_cellAt x1 x4 u34 (fun r44 u44 =>
        vp_in (x2 + x4) 20 ∧
        vp_in (x2 + x4) 20 ∧
        (((r44 ^^^ (jm_i u44 14 (x2 + x4).toNatClampNeg)) &&& ((jm_i u44 15 (x2 + x4).toNatClampNeg) ^^^ (-1 : Int32))) = 0 →
          ∀ v74 : Int32, v74 = x4 + (1 : Int32) →
          R v74 u44) ∧
        (¬ ((r44 ^^^ (jm_i u44 14 (x2 + x4).toNatClampNeg)) &&& ((jm_i u44 15 (x2 + x4).toNatClampNeg) ^^^ (-1 : Int32))) = 0 →
          Post (0 : Int32) u44))))
def mw_reads_L30 (Post : Int32 → MS → Prop) (x1 : Int32) (x2 : Int32) (x3 : Int32) : Nat → Int32 → MS → Prop
  | 0 => fun _ _ => False
  | n + 1 => fun x4 u => mw_reads_L30_S Post x1 x2 x3 (mw_reads_L30 Post x1 x2 x3 n) x4 u
/-- RaisedPressModel.reads(III)Z -/
def mw_reads (x1 : Int32) (x2 : Int32) (x3 : Int32) (u : MS) (Post : Int32 → MS → Prop) : Prop :=
  mw_isOut (jm_i u 1 6) x1 (fun r8 =>
    (¬ r8 = 0 →
      Post (0 : Int32) u) ∧
    (r8 = 0 →
      mw_cellsOf x1 u (fun r17 u17 =>
        ((x2 + r17) ≤ x3 →
          ∃ n, mw_reads_L30 Post x1 x2 x3 n (0 : Int32) u17) ∧
        (¬ (x2 + r17) ≤ x3 →
          Post (0 : Int32) u17))))
set_option maxHeartbeats 4000000 in
set_option maxRecDepth 100000 in
theorem tmw_reads_B102 {X : JC} {D : va_G} {dA ad : Nat → Nat} {Post : Int32 → MS → Prop} {x1 : Int32} {x2 : Int32} {x3 : Int32} {s0 : Int32} {s1 : Int32} {u : MS} (hX : JX X yX7_reads.cls cX7_reads 5 (Option.some Jvm.ClassFile.FieldType.boolean) 2 43 0 0) (hK : KM D dA (jj_s X)) (hD : MD ad) (h : mw_reads_B102 Post x1 x2 x3 s0 s1 u) : JJ X (AM ad) (jj_Q X (va_Qi (fun r u => Post r u ∧ jj_z r) (jm_B D dA ad) (AM ad)) 0 0 (AM ad)) 5 (MW D dA ad u) 0 0 102 [(0, .ref (ad 0)), (1, .int x1), (2, .int x2), (3, .int x3)] [.int s0, .int s1] := by
  unfold mw_reads_B102 at h
  refine jj_iload_n hX dX7_reads_102 2 rfl 103 rfl ?_
  refine jj_aload_n hX dX7_reads_103 0 rfl 104 rfl ?_
  refine jj_iload_n hX dX7_reads_104 1 rfl 105 rfl ?_
  refine kmw_cellsOf hX hK hD q1848 (Nat.le_of_ble_eq_true rfl) (Nat.le_of_ble_eq_true rfl) (Nat.zero_le _) (Nat.zero_le _) (Nat.le_of_ble_eq_true rfl) dX7_reads_105 108 rfl h (fun r105 u105 h => ?_)
  refine jj_iadd hX dX7_reads_108 109 rfl ?_
  refine jj_iload_n hX dX7_reads_109 3 rfl 110 rfl ?_
  refine jj_icmp_ne hX dX7_reads_110 117 113 (by decide) rfl (fun c110 => ?_) (fun c110 => ?_)
  · have h := h.1 c110
    refine jj_iconst hX dX7_reads_117 ci_0 118 rfl ?_
    refine kmw_holds hX MW.keeps q1810 (Nat.le_of_ble_eq_true rfl) (Nat.le_of_ble_eq_true rfl) (Nat.zero_le _) (Nat.zero_le _) (Nat.le_of_ble_eq_true rfl) dX7_reads_118 121 rfl h (fun r118 hb118 h => ?_)
    exact jj_retz (post := Post) (u := u105) hX dX7_reads_121 (Nat.le_refl 0) (Nat.le_refl 0) jm_hB hb118 h
  · have h := h.2 c110
    refine jj_iconst hX dX7_reads_113 ci_1 114 rfl ?_
    refine jj_goto hX dX7_reads_114 118 (by decide) ?_
    refine kmw_holds hX MW.keeps q1810 (Nat.le_of_ble_eq_true rfl) (Nat.le_of_ble_eq_true rfl) (Nat.zero_le _) (Nat.zero_le _) (Nat.le_of_ble_eq_true rfl) dX7_reads_118 121 rfl h (fun r118 hb118 h => ?_)
    exact jj_retz (post := Post) (u := u105) hX dX7_reads_121 (Nat.le_refl 0) (Nat.le_refl 0) jm_hB hb118 h
set_option maxHeartbeats 4000000 in
set_option maxRecDepth 100000 in
theorem tmw_reads_L30 {X : JC} {D : va_G} {dA ad : Nat → Nat} {Post : Int32 → MS → Prop} {x1 : Int32} {x2 : Int32} {x3 : Int32} (hX : JX X yX7_reads.cls cX7_reads 5 (Option.some Jvm.ClassFile.FieldType.boolean) 2 43 0 0) (hK : KM D dA (jj_s X)) (hD : MD ad) : ∀ (n : Nat) (x4 : Int32) (u : MS), mw_reads_L30 Post x1 x2 x3 n x4 u → JJ X (AM ad) (jj_Q X (va_Qi (fun r u => Post r u ∧ jj_z r) (jm_B D dA ad) (AM ad)) 0 0 (AM ad)) 5 (MW D dA ad u) 0 0 30 [(0, .ref (ad 0)), (1, .int x1), (2, .int x2), (3, .int x3), (4, .int x4)] [] := by
  intro n
  induction n with
  | zero =>
    intro x4 u h
    exact h.elim
  | succ n ih =>
    intro x4 u h
    have h : mw_reads_L30_S Post x1 x2 x3 (mw_reads_L30 Post x1 x2 x3 n) x4 u := h
    unfold mw_reads_L30_S at h
    refine jj_iload hX dX7_reads_30 4 rfl 32 rfl ?_
    refine jj_aload_n hX dX7_reads_32 0 rfl 33 rfl ?_
    refine jj_iload_n hX dX7_reads_33 1 rfl 34 rfl ?_
    refine kmw_cellsOf hX hK hD q1848 (Nat.le_of_ble_eq_true rfl) (Nat.le_of_ble_eq_true rfl) (Nat.zero_le _) (Nat.zero_le _) (Nat.le_of_ble_eq_true rfl) dX7_reads_34 37 rfl h (fun r34 u34 h => ?_)
    refine jj_icmp_ge hX dX7_reads_37 80 40 (by decide) rfl (fun c37 => ?_) (fun c37 => ?_)
    · have h := h.1 c37
      refine jt_0 hX hK dX7_reads_80 0 rfl dX7_reads_81 q1484 84 rfl rfl ?_
      refine jj_iconst hX dX7_reads_84 ci_0 85 rfl ?_
      refine jj_iload_n hX dX7_reads_85 1 rfl 86 rfl ?_
      refine kmw_ruleAt hX MW.keeps q1721 (Nat.le_of_ble_eq_true rfl) (Nat.le_of_ble_eq_true rfl) (Nat.zero_le _) (Nat.zero_le _) (Nat.le_of_ble_eq_true rfl) dX7_reads_86 89 rfl h (fun r86 h => ?_)
      refine jj_bipush hX dX7_reads_89 cb_11 91 rfl ?_
      refine jj_iadd hX dX7_reads_91 92 rfl ?_
      obtain ⟨hi92, h⟩ := h
      refine jr_1 hX hK _ rfl hi92 dX7_reads_92 93 rfl ?_
      refine jj_iload_n hX dX7_reads_93 2 rfl 94 rfl ?_
      refine jj_if_ne hX dX7_reads_94 101 97 (by decide) rfl (fun c94 => ?_) (fun c94 => ?_)
      · have h := h.1 c94
        refine jj_iconst hX dX7_reads_101 ci_0 102 rfl ?_
        refine jj_sub (lv2 := [(0, .ref (ad 0)), (1, .int x1), (2, .int x2), (3, .int x3)]) [0, 1, 2, 3] rfl ?_
        exact tmw_reads_B102 hX hK hD h
      · have h := h.2 c94
        refine jj_iconst hX dX7_reads_97 ci_1 98 rfl ?_
        refine jj_goto hX dX7_reads_98 102 (by decide) ?_
        refine jj_sub (lv2 := [(0, .ref (ad 0)), (1, .int x1), (2, .int x2), (3, .int x3)]) [0, 1, 2, 3] rfl ?_
        exact tmw_reads_B102 hX hK hD h
    · have h := h.2 c37
      refine jj_aload_n hX dX7_reads_40 0 rfl 41 rfl ?_
      refine jj_iload_n hX dX7_reads_41 1 rfl 42 rfl ?_
      refine jj_iload hX dX7_reads_42 4 rfl 44 rfl ?_
      refine kmw_cellAt hX hK hD q1852 (Nat.le_of_ble_eq_true rfl) (Nat.le_of_ble_eq_true rfl) (Nat.zero_le _) (Nat.zero_le _) (Nat.le_of_ble_eq_true rfl) dX7_reads_44 47 rfl h (fun r44 u44 h => ?_)
      refine jt_32 hX hK dX7_reads_47 0 rfl dX7_reads_48 q1516 51 rfl rfl ?_
      refine jj_iload_n hX dX7_reads_51 2 rfl 52 rfl ?_
      refine jj_iload hX dX7_reads_52 4 rfl 54 rfl ?_
      refine jj_iadd hX dX7_reads_54 55 rfl ?_
      obtain ⟨hi55, h⟩ := h
      refine jr_14 hX hK _ rfl hi55 dX7_reads_55 56 rfl ?_
      refine jj_ixor hX dX7_reads_56 57 rfl ?_
      refine jt_33 hX hK dX7_reads_57 0 rfl dX7_reads_58 q1517 61 rfl rfl ?_
      refine jj_iload_n hX dX7_reads_61 2 rfl 62 rfl ?_
      refine jj_iload hX dX7_reads_62 4 rfl 64 rfl ?_
      refine jj_iadd hX dX7_reads_64 65 rfl ?_
      obtain ⟨hi65, h⟩ := h
      refine jr_15 hX hK _ rfl hi65 dX7_reads_65 66 rfl ?_
      refine jj_iconst hX dX7_reads_66 ci_m1 67 rfl ?_
      refine jj_ixor hX dX7_reads_67 68 rfl ?_
      refine jj_iand hX dX7_reads_68 69 rfl ?_
      refine jj_if_eq hX dX7_reads_69 74 72 (by decide) rfl (fun c69 => ?_) (fun c69 => ?_)
      · have h := h.1 c69
        obtain ⟨v74, e74⟩ : ∃ y : Int32, y = x4 + (1 : Int32) := ⟨_, rfl⟩
        have h := h v74 e74
        refine jj_iinc (v := v74) (lv2 := [(0, .ref (ad 0)), (1, .int x1), (2, .int x2), (3, .int x3), (4, .int v74)]) hX dX7_reads_74 4 rfl (by rw [e74, ci_1]) (Nat.le_of_ble_eq_true rfl) [1, 2, 3, 4, 0] rfl 77 rfl ?_
        refine jj_goto hX dX7_reads_77 30 (by decide) ?_
        exact ih _ _ h
      · have h := h.2 c69
        refine jj_iconst hX dX7_reads_72 ci_0 73 rfl ?_
        exact jj_retz (post := Post) (u := u44) hX dX7_reads_73 (Nat.le_refl 0) (Nat.le_refl 0) jm_hB jj_z0 h
set_option maxHeartbeats 4000000 in
set_option maxRecDepth 100000 in
theorem mmw_reads (l : Launch) (D : va_G) (dA ad : Nat → Nat) (hD : MD ad) (x1 : Int32) (x2 : Int32) (x3 : Int32) (u : MS) (Post : Int32 → MS → Prop) (h : mw_reads x1 x2 x3 u Post) : Met l yX7_reads (ws_ yX7_reads cX7_reads 5 (Option.some Jvm.ClassFile.FieldType.boolean)) (jm_rm 2 43) (jm_Pc D dA ad u [.int x1, .int x2, .int x3]) (va_Qi (fun r u => Post r u ∧ jj_z r) (jm_B D dA ad) (AM ad)) 0 0 (AM ad) := by
  refine jm_start [.int x1, .int x2, .int x3] [(0, .ref (ad 0)), (1, .int x1), (2, .int x2), (3, .int x3)] (by decide) (Nat.le_of_ble_eq_true rfl) rfl (fun X hX hK => ?_)
  unfold mw_reads at h
  refine jt_0 hX hK dX7_reads_0 0 rfl dX7_reads_1 q1484 4 rfl rfl ?_
  refine jj_bipush hX dX7_reads_4 cb_6 6 rfl ?_
  refine jr_1 hX hK 6 kc_6 vi_1_6 dX7_reads_6 7 rfl ?_
  refine jj_iload_n hX dX7_reads_7 1 rfl 8 rfl ?_
  refine kmw_isOut hX MW.keeps q1800 (Nat.le_of_ble_eq_true rfl) (Nat.le_of_ble_eq_true rfl) (Nat.zero_le _) (Nat.zero_le _) (Nat.le_of_ble_eq_true rfl) dX7_reads_8 11 rfl h (fun r8 hb8 h => ?_)
  refine jj_if_ne hX dX7_reads_11 25 14 (by decide) rfl (fun c11 => ?_) (fun c11 => ?_)
  · have h := h.1 c11
    refine jj_iconst hX dX7_reads_25 ci_0 26 rfl ?_
    exact jj_retz (post := Post) (u := u) hX dX7_reads_26 (Nat.le_refl 0) (Nat.le_refl 0) jm_hB jj_z0 h
  · have h := h.2 c11
    refine jj_iload_n hX dX7_reads_14 2 rfl 15 rfl ?_
    refine jj_aload_n hX dX7_reads_15 0 rfl 16 rfl ?_
    refine jj_iload_n hX dX7_reads_16 1 rfl 17 rfl ?_
    refine kmw_cellsOf hX hK hD q1848 (Nat.le_of_ble_eq_true rfl) (Nat.le_of_ble_eq_true rfl) (Nat.zero_le _) (Nat.zero_le _) (Nat.le_of_ble_eq_true rfl) dX7_reads_17 20 rfl h (fun r17 u17 h => ?_)
    refine jj_iadd hX dX7_reads_20 21 rfl ?_
    refine jj_iload_n hX dX7_reads_21 3 rfl 22 rfl ?_
    refine jj_icmp_le hX dX7_reads_22 27 25 (by decide) rfl (fun c22 => ?_) (fun c22 => ?_)
    · have h := h.1 c22
      refine jj_iconst hX dX7_reads_27 ci_0 28 rfl ?_
      refine jj_istore (lv2 := [(0, .ref (ad 0)), (1, .int x1), (2, .int x2), (3, .int x3), (4, .int (0 : Int32))]) hX dX7_reads_28 (Nat.le_of_ble_eq_true rfl) [1, 2, 3, 4, 0] rfl 30 rfl ?_
      obtain ⟨n9, h⟩ := h
      exact tmw_reads_L30 hX hK hD n9 _ _ h
    · have h := h.2 c22
      refine jj_iconst hX dX7_reads_25 ci_0 26 rfl ?_
      exact jj_retz (post := Post) (u := u17) hX dX7_reads_26 (Nat.le_refl 0) (Nat.le_refl 0) jm_hB jj_z0 h
theorem hd_mw_reads : yX7_reads.cls = RX7 ∧ yX7_reads.cls ≠ "java/lang/invoke/MethodHandle" ∧ yX7_reads.cls ≠ "java/lang/invoke/VarHandle" ∧ (parseMethodDescriptor yX7_reads.desc).map (fun d => d.parameters.length) = some 3 := by decide +kernel
theorem kmw_reads {X : JC} {Q : State → Prop} {nL k n pc : Nat} {lv : List (Nat × Value)} {st : List Value} {own : String} {cc : ByteArray} {ret : Option FieldType} {F LL mc ms ix : Nat} {D : va_G} {dA ad : Nat → Nat} {x1 : Int32} {x2 : Int32} {x3 : Int32} {u : MS} {Post : Int32 → MS → Prop} (hX : JX X own cc nL ret F LL mc ms) (hK : KM D dA (jj_s X)) (hD : MD ad) (hlk : (Cond.methodLink own ix yX7_reads) ∈ lw_all) (hF : 2 + 1 ≤ F) (hL : 8 + (5 + 11) + 43 ≤ LL) (hk : k ≤ mc) (hk2 : n ≤ ms) (hw : (st.map fun v => v.category).sum ≤ 8) (d : decode cc pc = .ok (.invokevirtual ix, 3)) (q : Nat) (hq : pc + 3 = q) (h : mw_reads x1 x2 x3 u Post) (kk : ∀ (r : Int32) (u2 : MS), jj_z r → Post r u2 → JJ X (AM ad) Q nL (MW D dA ad u2) k n q lv (.int r :: st)) : JJ X (AM ad) Q nL (MW D dA ad u) k n pc lv (.int x3 :: .int x2 :: .int x1 :: .ref (ad 0) :: st) :=
  jm_callz (na := 3) (As := [.int x1, .int x2, .int x3]) hX hK (mmw_reads (jj_l X) D dA ad hD x1 x2 x3 u Post h) hlk q2057 qs106 q129 q2058 hd_mw_reads rfl rfl hw hF hL hk hk2 d q hq kk
def mw_countsWays_L20_S (K11 : Int32 → MS → Prop) (Post : Int32 → MS → Prop) (x1 : Int32) (x2 : Int32) (R : Int32 → Int32 → MS → Prop) (x3 : Int32) (x4 : Int32) (u : MS) : Prop :=
  ((jm_i u 1 0) ≤ x4 →
    vp_in x2 21 ∧
    ∀ u76 : MS, u76 = jm_s u 16 x2.toNatClampNeg x3 →
    ∀ v77 : Int32, v77 = x2 + (-1 : Int32) →
    K11 v77 u76) ∧
  (¬ (jm_i u 1 0) ≤ x4 →
    mw_reads x4 x2 x1 u (fun r36 u36 =>
      (r36 = 0 →
        ∀ v64 : Int32, v64 = x4 + (1 : Int32) →
        R x3 v64 u36) ∧
      (¬ r36 = 0 →
        mw_cellsOf x4 u36 (fun r54 u54 =>
          vp_in (x2 + r54) 21 ∧
          jw_min (999999 : Int32) (x3 + (jm_i u54 16 (x2 + r54).toNatClampNeg)) (fun r60 =>
            ∀ v64 : Int32, v64 = x4 + (1 : Int32) →
            R r60 v64 u54)))))
def mw_countsWays_L20 (K11 : Int32 → MS → Prop) (Post : Int32 → MS → Prop) (x1 : Int32) (x2 : Int32) : Nat → Int32 → Int32 → MS → Prop
  | 0 => fun _ _ _ => False
  | n + 1 => fun x3 x4 u => mw_countsWays_L20_S K11 Post x1 x2 (mw_countsWays_L20 K11 Post x1 x2 n) x3 x4 u
def mw_countsWays_L11_S (Post : Int32 → MS → Prop) (x1 : Int32) (R : Int32 → MS → Prop) (x2 : Int32) (u : MS) : Prop :=
  (x2 < 0 →
    Post (jm_i u 16 0) u) ∧
  (¬ x2 < 0 →
    ∃ n, mw_countsWays_L20 R Post x1 x2 n (0 : Int32) (0 : Int32) u)
def mw_countsWays_L11 (Post : Int32 → MS → Prop) (x1 : Int32) : Nat → Int32 → MS → Prop
  | 0 => fun _ _ => False
  | n + 1 => fun x2 u => mw_countsWays_L11_S Post x1 (mw_countsWays_L11 Post x1 n) x2 u
/-- RaisedPressModel.countsWays(I)I -/
def mw_countsWays (x1 : Int32) (u : MS) (Post : Int32 → MS → Prop) : Prop :=
  vp_in x1 21 ∧
  ∀ u6 : MS, u6 = jm_s u 16 x1.toNatClampNeg (1 : Int32) →
  ∀ v10 : Int32, v10 = (x1 - (1 : Int32)) →
  ∃ n, mw_countsWays_L11 Post x1 n v10 u6
set_option maxHeartbeats 4000000 in
set_option maxRecDepth 100000 in
theorem tmw_countsWays_L20 {X : JC} {D : va_G} {dA ad : Nat → Nat} {K11 : Int32 → MS → Prop} {Post : Int32 → MS → Prop} {x1 : Int32} {x2 : Int32} (hX : JX X yX7_countsWays.cls cX7_countsWays 5 (Option.some Jvm.ClassFile.FieldType.int) 3 67 0 0) (hK : KM D dA (jj_s X)) (hD : MD ad) (hK11 : ∀ (y2 : Int32) (u : MS), K11 y2 u → JJ X (AM ad) (jj_Q X (va_Qi Post (jm_B D dA ad) (AM ad)) 0 0 (AM ad)) 5 (MW D dA ad u) 0 0 11 [(0, .ref (ad 0)), (1, .int x1), (2, .int y2)] []) : ∀ (n : Nat) (x3 : Int32) (x4 : Int32) (u : MS), mw_countsWays_L20 K11 Post x1 x2 n x3 x4 u → JJ X (AM ad) (jj_Q X (va_Qi Post (jm_B D dA ad) (AM ad)) 0 0 (AM ad)) 5 (MW D dA ad u) 0 0 20 [(0, .ref (ad 0)), (1, .int x1), (2, .int x2), (3, .int x3), (4, .int x4)] [] := by
  intro n
  induction n with
  | zero =>
    intro x3 x4 u h
    exact h.elim
  | succ n ih =>
    intro x3 x4 u h
    have h : mw_countsWays_L20_S K11 Post x1 x2 (mw_countsWays_L20 K11 Post x1 x2 n) x3 x4 u := h
    unfold mw_countsWays_L20_S at h
    refine jj_iload hX dX7_countsWays_20 4 rfl 22 rfl ?_
    refine jt_0 hX hK dX7_countsWays_22 0 rfl dX7_countsWays_23 q1484 26 rfl rfl ?_
    refine jj_iconst hX dX7_countsWays_26 ci_0 27 rfl ?_
    refine jr_1 hX hK 0 kc_0 vi_1_0 dX7_countsWays_27 28 rfl ?_
    refine jj_icmp_ge hX dX7_countsWays_28 70 31 (by decide) rfl (fun c28 => ?_) (fun c28 => ?_)
    · have h := h.1 c28
      refine jt_34 hX hK dX7_countsWays_70 0 rfl dX7_countsWays_71 q1518 74 rfl rfl ?_
      refine jj_iload_n hX dX7_countsWays_74 2 rfl 75 rfl ?_
      refine jj_iload_n hX dX7_countsWays_75 3 rfl 76 rfl ?_
      obtain ⟨hi76, h⟩ := h
      refine jw_16 hX hK hD _ rfl hi76 dX7_countsWays_76 77 rfl (fun u76 e76 => ?_)
      have h := h u76 e76
      obtain ⟨v77, e77⟩ : ∃ y : Int32, y = x2 + (-1 : Int32) := ⟨_, rfl⟩
      have h := h v77 e77
      refine jj_iinc (v := v77) (lv2 := [(0, .ref (ad 0)), (1, .int x1), (2, .int v77), (3, .int x3), (4, .int x4)]) hX dX7_countsWays_77 2 rfl (by rw [e77, ci_m1]) (Nat.le_of_ble_eq_true rfl) [1, 2, 0, 3, 4] rfl 80 rfl ?_
      refine jj_goto hX dX7_countsWays_80 11 (by decide) ?_
      refine jj_sub (lv2 := [(0, .ref (ad 0)), (1, .int x1), (2, .int v77)]) [0, 1, 2] rfl ?_
      exact hK11 _ _ h
    · have h := h.2 c28
      refine jj_aload_n hX dX7_countsWays_31 0 rfl 32 rfl ?_
      refine jj_iload hX dX7_countsWays_32 4 rfl 34 rfl ?_
      refine jj_iload_n hX dX7_countsWays_34 2 rfl 35 rfl ?_
      refine jj_iload_n hX dX7_countsWays_35 1 rfl 36 rfl ?_
      refine kmw_reads hX hK hD q2055 (Nat.le_of_ble_eq_true rfl) (Nat.le_of_ble_eq_true rfl) (Nat.zero_le _) (Nat.zero_le _) (Nat.le_of_ble_eq_true rfl) dX7_countsWays_36 39 rfl h (fun r36 u36 hb36 h => ?_)
      refine jj_if_eq hX dX7_countsWays_39 64 42 (by decide) rfl (fun c39 => ?_) (fun c39 => ?_)
      · have h := h.1 c39
        obtain ⟨v64, e64⟩ : ∃ y : Int32, y = x4 + (1 : Int32) := ⟨_, rfl⟩
        have h := h v64 e64
        refine jj_iinc (v := v64) (lv2 := [(0, .ref (ad 0)), (1, .int x1), (2, .int x2), (3, .int x3), (4, .int v64)]) hX dX7_countsWays_64 4 rfl (by rw [e64, ci_1]) (Nat.le_of_ble_eq_true rfl) [1, 2, 3, 4, 0] rfl 67 rfl ?_
        refine jj_goto hX dX7_countsWays_67 20 (by decide) ?_
        exact ih _ _ _ h
      · have h := h.2 c39
        refine jj_ldcw (v := 999999) hX dX7_countsWays_42 q2059 45 rfl ?_
        refine jj_iload_n hX dX7_countsWays_45 3 rfl 46 rfl ?_
        refine jt_34 hX hK dX7_countsWays_46 0 rfl dX7_countsWays_47 q1518 50 rfl rfl ?_
        refine jj_iload_n hX dX7_countsWays_50 2 rfl 51 rfl ?_
        refine jj_aload_n hX dX7_countsWays_51 0 rfl 52 rfl ?_
        refine jj_iload hX dX7_countsWays_52 4 rfl 54 rfl ?_
        refine kmw_cellsOf hX hK hD q1848 (Nat.le_of_ble_eq_true rfl) (Nat.le_of_ble_eq_true rfl) (Nat.zero_le _) (Nat.zero_le _) (Nat.le_of_ble_eq_true rfl) dX7_countsWays_54 57 rfl h (fun r54 u54 h => ?_)
        refine jj_iadd hX dX7_countsWays_57 58 rfl ?_
        obtain ⟨hi58, h⟩ := h
        refine jr_16 hX hK _ rfl hi58 dX7_countsWays_58 59 rfl ?_
        refine jj_iadd hX dX7_countsWays_59 60 rfl ?_
        refine kjw_min hX MW.keeps q1701 (Nat.le_of_ble_eq_true rfl) (Nat.le_of_ble_eq_true rfl) (Nat.zero_le _) (Nat.zero_le _) (Nat.le_of_ble_eq_true rfl) dX7_countsWays_60 63 rfl h (fun r60 h => ?_)
        refine jj_istore_n (lv2 := [(0, .ref (ad 0)), (1, .int x1), (2, .int x2), (3, .int r60), (4, .int x4)]) hX dX7_countsWays_63 (Nat.le_of_ble_eq_true rfl) [1, 2, 3, 0, 4] rfl 64 rfl ?_
        obtain ⟨v64, e64⟩ : ∃ y : Int32, y = x4 + (1 : Int32) := ⟨_, rfl⟩
        have h := h v64 e64
        refine jj_iinc (v := v64) (lv2 := [(0, .ref (ad 0)), (1, .int x1), (2, .int x2), (3, .int r60), (4, .int v64)]) hX dX7_countsWays_64 4 rfl (by rw [e64, ci_1]) (Nat.le_of_ble_eq_true rfl) [1, 2, 3, 4, 0] rfl 67 rfl ?_
        refine jj_goto hX dX7_countsWays_67 20 (by decide) ?_
        exact ih _ _ _ h
set_option maxHeartbeats 4000000 in
set_option maxRecDepth 100000 in
theorem tmw_countsWays_L11 {X : JC} {D : va_G} {dA ad : Nat → Nat} {Post : Int32 → MS → Prop} {x1 : Int32} (hX : JX X yX7_countsWays.cls cX7_countsWays 5 (Option.some Jvm.ClassFile.FieldType.int) 3 67 0 0) (hK : KM D dA (jj_s X)) (hD : MD ad) : ∀ (n : Nat) (x2 : Int32) (u : MS), mw_countsWays_L11 Post x1 n x2 u → JJ X (AM ad) (jj_Q X (va_Qi Post (jm_B D dA ad) (AM ad)) 0 0 (AM ad)) 5 (MW D dA ad u) 0 0 11 [(0, .ref (ad 0)), (1, .int x1), (2, .int x2)] [] := by
  intro n
  induction n with
  | zero =>
    intro x2 u h
    exact h.elim
  | succ n ih =>
    intro x2 u h
    have h : mw_countsWays_L11_S Post x1 (mw_countsWays_L11 Post x1 n) x2 u := h
    unfold mw_countsWays_L11_S at h
    refine jj_iload_n hX dX7_countsWays_11 2 rfl 12 rfl ?_
    refine jj_if_lt hX dX7_countsWays_12 83 15 (by decide) rfl (fun c12 => ?_) (fun c12 => ?_)
    · have h := h.1 c12
      refine jt_34 hX hK dX7_countsWays_83 0 rfl dX7_countsWays_84 q1518 87 rfl rfl ?_
      refine jj_iconst hX dX7_countsWays_87 ci_0 88 rfl ?_
      refine jr_16 hX hK 0 kc_0 vi_16_0 dX7_countsWays_88 89 rfl ?_
      exact jj_reti (post := Post) (u := u) hX dX7_countsWays_89 (Nat.le_refl 0) (Nat.le_refl 0) jm_hB h
    · have h := h.2 c12
      refine jj_iconst hX dX7_countsWays_15 ci_0 16 rfl ?_
      refine jj_istore_n (lv2 := [(0, .ref (ad 0)), (1, .int x1), (2, .int x2), (3, .int (0 : Int32))]) hX dX7_countsWays_16 (Nat.le_of_ble_eq_true rfl) [1, 2, 3, 0] rfl 17 rfl ?_
      refine jj_iconst hX dX7_countsWays_17 ci_0 18 rfl ?_
      refine jj_istore (lv2 := [(0, .ref (ad 0)), (1, .int x1), (2, .int x2), (3, .int (0 : Int32)), (4, .int (0 : Int32))]) hX dX7_countsWays_18 (Nat.le_of_ble_eq_true rfl) [1, 2, 3, 4, 0] rfl 20 rfl ?_
      obtain ⟨n9, h⟩ := h
      exact tmw_countsWays_L20 hX hK hD ih n9 _ _ _ h
set_option maxHeartbeats 4000000 in
set_option maxRecDepth 100000 in
theorem mmw_countsWays (l : Launch) (D : va_G) (dA ad : Nat → Nat) (hD : MD ad) (x1 : Int32) (u : MS) (Post : Int32 → MS → Prop) (h : mw_countsWays x1 u Post) : Met l yX7_countsWays (ws_ yX7_countsWays cX7_countsWays 5 (Option.some Jvm.ClassFile.FieldType.int)) (jm_rm 3 67) (jm_Pc D dA ad u [.int x1]) (va_Qi Post (jm_B D dA ad) (AM ad)) 0 0 (AM ad) := by
  refine jm_start [.int x1] [(0, .ref (ad 0)), (1, .int x1)] (by decide) (Nat.le_of_ble_eq_true rfl) rfl (fun X hX hK => ?_)
  unfold mw_countsWays at h
  refine jt_34 hX hK dX7_countsWays_0 0 rfl dX7_countsWays_1 q1518 4 rfl rfl ?_
  refine jj_iload_n hX dX7_countsWays_4 1 rfl 5 rfl ?_
  refine jj_iconst hX dX7_countsWays_5 ci_1 6 rfl ?_
  obtain ⟨hi6, h⟩ := h
  refine jw_16 hX hK hD _ rfl hi6 dX7_countsWays_6 7 rfl (fun u6 e6 => ?_)
  have h := h u6 e6
  refine jj_iload_n hX dX7_countsWays_7 1 rfl 8 rfl ?_
  refine jj_iconst hX dX7_countsWays_8 ci_1 9 rfl ?_
  refine jj_isub hX dX7_countsWays_9 10 rfl ?_
  refine jj_topi (fun v10 e10 => ?_)
  have h := h v10 e10
  refine jj_istore_n (lv2 := [(0, .ref (ad 0)), (1, .int x1), (2, .int v10)]) hX dX7_countsWays_10 (Nat.le_of_ble_eq_true rfl) [1, 2, 0] rfl 11 rfl ?_
  obtain ⟨n9, h⟩ := h
  exact tmw_countsWays_L11 hX hK hD n9 _ _ h
theorem hd_mw_countsWays : yX7_countsWays.cls = RX7 ∧ yX7_countsWays.cls ≠ "java/lang/invoke/MethodHandle" ∧ yX7_countsWays.cls ≠ "java/lang/invoke/VarHandle" ∧ (parseMethodDescriptor yX7_countsWays.desc).map (fun d => d.parameters.length) = some 1 := by decide +kernel
theorem kmw_countsWays {X : JC} {Q : State → Prop} {nL k n pc : Nat} {lv : List (Nat × Value)} {st : List Value} {own : String} {cc : ByteArray} {ret : Option FieldType} {F LL mc ms ix : Nat} {D : va_G} {dA ad : Nat → Nat} {x1 : Int32} {u : MS} {Post : Int32 → MS → Prop} (hX : JX X own cc nL ret F LL mc ms) (hK : KM D dA (jj_s X)) (hD : MD ad) (hlk : (Cond.methodLink own ix yX7_countsWays) ∈ lw_all) (hF : 3 + 1 ≤ F) (hL : 8 + (5 + 11) + 67 ≤ LL) (hk : k ≤ mc) (hk2 : n ≤ ms) (hw : (st.map fun v => v.category).sum ≤ 8) (d : decode cc pc = .ok (.invokevirtual ix, 3)) (q : Nat) (hq : pc + 3 = q) (h : mw_countsWays x1 u Post) (kk : ∀ (r : Int32) (u2 : MS), Post r u2 → JJ X (AM ad) Q nL (MW D dA ad u2) k n q lv (.int r :: st)) : JJ X (AM ad) Q nL (MW D dA ad u) k n pc lv (.int x1 :: .ref (ad 0) :: st) :=
  jm_calli (na := 1) (As := [.int x1]) hX hK (mmw_countsWays (jj_l X) D dA ad hD x1 u Post h) hlk q2053 qs105 q129 q2054 hd_mw_countsWays rfl rfl hw hF hL hk hk2 d q hq kk
/-- RaisedPressModel.ways(II)I -/
def mw_ways (x1 : Int32) (x2 : Int32) (u : MS) (Post : Int32 → MS → Prop) : Prop :=
  mw_wrongRow x1 x2 (1 : Int32) u (fun r4 u4 =>
    (r4 ≤ 0 →
      mw_laysRow x1 x2 u4 (fun u21 =>
        mw_countsWays x2 u21 (fun r27 u27 =>
          mw_gives r27 u27 (fun r30 u30 =>
            Post r30 u30)))) ∧
    (¬ r4 ≤ 0 →
      mw_refuse r4 u4 (fun r14 u14 =>
        Post r14 u14)))
set_option maxHeartbeats 4000000 in
set_option maxRecDepth 100000 in
theorem mmw_ways (l : Launch) (D : va_G) (dA ad : Nat → Nat) (hD : MD ad) (x1 : Int32) (x2 : Int32) (u : MS) (Post : Int32 → MS → Prop) (h : mw_ways x1 x2 u Post) : Met l yX7_ways (ws_ yX7_ways cX7_ways 4 (Option.some Jvm.ClassFile.FieldType.int)) (jm_rm 4 91) (jm_Pc D dA ad u [.int x1, .int x2]) (va_Qi Post (jm_B D dA ad) (AM ad)) 0 0 (AM ad) := by
  refine jm_start [.int x1, .int x2] [(0, .ref (ad 0)), (1, .int x1), (2, .int x2)] (by decide) (Nat.le_of_ble_eq_true rfl) rfl (fun X hX hK => ?_)
  unfold mw_ways at h
  refine jj_aload_n hX dX7_ways_0 0 rfl 1 rfl ?_
  refine jj_iload_n hX dX7_ways_1 1 rfl 2 rfl ?_
  refine jj_iload_n hX dX7_ways_2 2 rfl 3 rfl ?_
  refine jj_iconst hX dX7_ways_3 ci_1 4 rfl ?_
  refine kmw_wrongRow hX hK hD q2043 (Nat.le_of_ble_eq_true rfl) (Nat.le_of_ble_eq_true rfl) (Nat.zero_le _) (Nat.zero_le _) (Nat.le_of_ble_eq_true rfl) dX7_ways_4 7 rfl h (fun r4 u4 h => ?_)
  refine jj_istore_n (lv2 := [(0, .ref (ad 0)), (1, .int x1), (2, .int x2), (3, .int r4)]) hX dX7_ways_7 (Nat.le_of_ble_eq_true rfl) [1, 2, 3, 0] rfl 8 rfl ?_
  refine jj_iload_n hX dX7_ways_8 3 rfl 9 rfl ?_
  refine jj_if_le hX dX7_ways_9 18 12 (by decide) rfl (fun c9 => ?_) (fun c9 => ?_)
  · have h := h.1 c9
    refine jj_aload_n hX dX7_ways_18 0 rfl 19 rfl ?_
    refine jj_iload_n hX dX7_ways_19 1 rfl 20 rfl ?_
    refine jj_iload_n hX dX7_ways_20 2 rfl 21 rfl ?_
    refine kmw_laysRow hX hK hD q2047 (Nat.le_of_ble_eq_true rfl) (Nat.le_of_ble_eq_true rfl) (Nat.zero_le _) (Nat.zero_le _) (Nat.le_of_ble_eq_true rfl) dX7_ways_21 24 rfl h (fun u21 h => ?_)
    refine jj_aload_n hX dX7_ways_24 0 rfl 25 rfl ?_
    refine jj_aload_n hX dX7_ways_25 0 rfl 26 rfl ?_
    refine jj_iload_n hX dX7_ways_26 2 rfl 27 rfl ?_
    refine kmw_countsWays hX hK hD q2051 (Nat.le_of_ble_eq_true rfl) (Nat.le_of_ble_eq_true rfl) (Nat.zero_le _) (Nat.zero_le _) (Nat.le_of_ble_eq_true rfl) dX7_ways_27 30 rfl h (fun r27 u27 h => ?_)
    refine kmw_gives hX hK hD q1752 (Nat.le_of_ble_eq_true rfl) (Nat.le_of_ble_eq_true rfl) (Nat.zero_le _) (Nat.zero_le _) (Nat.le_of_ble_eq_true rfl) dX7_ways_30 33 rfl h (fun r30 u30 h => ?_)
    exact jj_reti (post := Post) (u := u30) hX dX7_ways_33 (Nat.le_refl 0) (Nat.le_refl 0) jm_hB h
  · have h := h.2 c9
    refine jj_aload_n hX dX7_ways_12 0 rfl 13 rfl ?_
    refine jj_iload_n hX dX7_ways_13 3 rfl 14 rfl ?_
    refine kmw_refuse hX hK hD q1702 (Nat.le_of_ble_eq_true rfl) (Nat.le_of_ble_eq_true rfl) (Nat.zero_le _) (Nat.zero_le _) (Nat.le_of_ble_eq_true rfl) dX7_ways_14 17 rfl h (fun r14 u14 h => ?_)
    exact jj_reti (post := Post) (u := u14) hX dX7_ways_17 (Nat.le_refl 0) (Nat.le_refl 0) jm_hB h
theorem hd_mw_ways : yX7_ways.cls = RX7 ∧ yX7_ways.cls ≠ "java/lang/invoke/MethodHandle" ∧ yX7_ways.cls ≠ "java/lang/invoke/VarHandle" ∧ (parseMethodDescriptor yX7_ways.desc).map (fun d => d.parameters.length) = some 2 := by decide +kernel
theorem kmw_ways {X : JC} {Q : State → Prop} {nL k n pc : Nat} {lv : List (Nat × Value)} {st : List Value} {own : String} {cc : ByteArray} {ret : Option FieldType} {F LL mc ms ix : Nat} {D : va_G} {dA ad : Nat → Nat} {x1 : Int32} {x2 : Int32} {u : MS} {Post : Int32 → MS → Prop} (hX : JX X own cc nL ret F LL mc ms) (hK : KM D dA (jj_s X)) (hD : MD ad) (hlk : (Cond.methodLink own ix yX7_ways) ∈ lw_all) (hF : 4 + 1 ≤ F) (hL : 8 + (4 + 11) + 91 ≤ LL) (hk : k ≤ mc) (hk2 : n ≤ ms) (hw : (st.map fun v => v.category).sum ≤ 8) (d : decode cc pc = .ok (.invokevirtual ix, 3)) (q : Nat) (hq : pc + 3 = q) (h : mw_ways x1 x2 u Post) (kk : ∀ (r : Int32) (u2 : MS), Post r u2 → JJ X (AM ad) Q nL (MW D dA ad u2) k n q lv (.int r :: st)) : JJ X (AM ad) Q nL (MW D dA ad u) k n pc lv (.int x2 :: .int x1 :: .ref (ad 0) :: st) :=
  jm_calli (na := 2) (As := [.int x1, .int x2]) hX hK (mmw_ways (jj_l X) D dA ad hD x1 x2 u Post h) hlk q2040 q2041 q129 q2042 hd_mw_ways rfl rfl hw hF hL hk hk2 d q hq kk
def mw_first_L61_S (K52 : Int32 → MS → Prop) (Post : Int32 → MS → Prop) (x2 : Int32) (x4 : Int32) (R : Int32 → MS → Prop) (x5 : Int32) (u : MS) : Prop :=
  mw_reads x5 x4 x2 u (fun r67 u67 =>
    (r67 = 0 →
      ∀ v90 : Int32, v90 = x5 + (1 : Int32) →
      R v90 u67) ∧
    (¬ r67 = 0 →
      mw_cellsOf x5 u67 (fun r82 u82 =>
        vp_in (x4 + r82) 21 ∧
        (¬ (jm_i u82 16 (x4 + r82).toNatClampNeg) = 0 →
          vp_in (jm_i u82 0 36) 20 ∧
          ∀ u106 : MS, u106 = jm_s u82 17 (jm_i u82 0 36).toNatClampNeg x5 →
          ∀ u114 : MS, u114 = jm_s u106 0 36 ((jm_i u106 0 36) + (1 : Int32)) →
          mw_ruleAt (0 : Int32) x5 (fun r129 =>
            vp_in r129 19800 ∧
            ∀ u134 : MS, u134 = jm_s u114 0 37 ((jm_i u114 0 37) + (jm_i u114 1 r129.toNatClampNeg)) →
            mw_cellsOf x5 u134 (fun r142 u142 =>
              ∀ v146 : Int32, v146 = (x4 + r142) →
              K52 v146 u142))) ∧
        ((jm_i u82 16 (x4 + r82).toNatClampNeg) = 0 →
          ∀ v90 : Int32, v90 = x5 + (1 : Int32) →
          R v90 u82))))
def mw_first_L61 (K52 : Int32 → MS → Prop) (Post : Int32 → MS → Prop) (x2 : Int32) (x4 : Int32) : Nat → Int32 → MS → Prop
  | 0 => fun _ _ => False
  | n + 1 => fun x5 u => mw_first_L61_S K52 Post x2 x4 (mw_first_L61 K52 Post x2 x4 n) x5 u
def mw_first_L52_S (Post : Int32 → MS → Prop) (x2 : Int32) (R : Int32 → MS → Prop) (x4 : Int32) (u : MS) : Prop :=
  (x2 ≤ x4 →
    mw_gives (jm_i u 0 36) u (fun r156 u156 =>
      Post r156 u156)) ∧
  (¬ x2 ≤ x4 →
    ∃ n, mw_first_L61 R Post x2 x4 n (0 : Int32) u)
def mw_first_L52 (Post : Int32 → MS → Prop) (x2 : Int32) : Nat → Int32 → MS → Prop
  | 0 => fun _ _ => False
  | n + 1 => fun x4 u => mw_first_L52_S Post x2 (mw_first_L52 Post x2 n) x4 u
/-- RaisedPressModel.first(II)I -/
def mw_first (x1 : Int32) (x2 : Int32) (u : MS) (Post : Int32 → MS → Prop) : Prop :=
  mw_wrongRow x1 x2 (1 : Int32) u (fun r4 u4 =>
    (r4 ≤ 0 →
      mw_laysRow x1 x2 u4 (fun u21 =>
        mw_countsWays x2 u21 (fun r26 u26 =>
          (¬ r26 = 0 →
            ∀ u41 : MS, u41 = jm_s u26 0 36 (0 : Int32) →
            ∀ u46 : MS, u46 = jm_s u41 0 37 (0 : Int32) →
            ∃ n, mw_first_L52 Post x2 n (0 : Int32) u46) ∧
          (r26 = 0 →
            mw_refuse (6 : Int32) u26 (fun r35 u35 =>
              Post r35 u35))))) ∧
    (¬ r4 ≤ 0 →
      mw_refuse r4 u4 (fun r14 u14 =>
        Post r14 u14)))
set_option maxHeartbeats 4000000 in
set_option maxRecDepth 100000 in
theorem tmw_first_L61 {X : JC} {D : va_G} {dA ad : Nat → Nat} {K52 : Int32 → MS → Prop} {Post : Int32 → MS → Prop} {x2 : Int32} {x4 : Int32} (hX : JX X yX7_first.cls cX7_first 6 (Option.some Jvm.ClassFile.FieldType.int) 4 91 0 0) (hK : KM D dA (jj_s X)) (hD : MD ad) (hK52 : ∀ (y4 : Int32) (u : MS), K52 y4 u → JJ X (AM ad) (jj_Q X (va_Qi Post (jm_B D dA ad) (AM ad)) 0 0 (AM ad)) 6 (MW D dA ad u) 0 0 52 [(0, .ref (ad 0)), (2, .int x2), (4, .int y4)] []) : ∀ (n : Nat) (x5 : Int32) (u : MS), mw_first_L61 K52 Post x2 x4 n x5 u → JJ X (AM ad) (jj_Q X (va_Qi Post (jm_B D dA ad) (AM ad)) 0 0 (AM ad)) 6 (MW D dA ad u) 0 0 61 [(0, .ref (ad 0)), (2, .int x2), (4, .int x4), (5, .int x5)] [] := by
  intro n
  induction n with
  | zero =>
    intro x5 u h
    exact h.elim
  | succ n ih =>
    intro x5 u h
    have h : mw_first_L61_S K52 Post x2 x4 (mw_first_L61 K52 Post x2 x4 n) x5 u := h
    unfold mw_first_L61_S at h
    refine jj_aload_n hX dX7_first_61 0 rfl 62 rfl ?_
    refine jj_iload hX dX7_first_62 3 rfl 64 rfl ?_
    refine jj_iload hX dX7_first_64 2 rfl 66 rfl ?_
    refine jj_iload_n hX dX7_first_66 1 rfl 67 rfl ?_
    refine kmw_reads hX hK hD q2055 (Nat.le_of_ble_eq_true rfl) (Nat.le_of_ble_eq_true rfl) (Nat.zero_le _) (Nat.zero_le _) (Nat.le_of_ble_eq_true rfl) dX7_first_67 70 rfl h (fun r67 u67 hb67 h => ?_)
    refine jj_if_eq hX dX7_first_70 90 73 (by decide) rfl (fun c70 => ?_) (fun c70 => ?_)
    · have h := h.1 c70
      obtain ⟨v90, e90⟩ : ∃ y : Int32, y = x5 + (1 : Int32) := ⟨_, rfl⟩
      have h := h v90 e90
      refine jj_iinc (v := v90) (lv2 := [(0, .ref (ad 0)), (2, .int x2), (4, .int x4), (5, .int v90)]) hX dX7_first_90 3 rfl (by rw [e90, ci_1]) (Nat.le_of_ble_eq_true rfl) [1, 2, 3, 0] rfl 93 rfl ?_
      refine jj_goto hX dX7_first_93 61 (by decide) ?_
      exact ih _ _ h
    · have h := h.2 c70
      refine jt_34 hX hK dX7_first_73 0 rfl dX7_first_74 q1518 77 rfl rfl ?_
      refine jj_iload hX dX7_first_77 2 rfl 79 rfl ?_
      refine jj_aload_n hX dX7_first_79 0 rfl 80 rfl ?_
      refine jj_iload hX dX7_first_80 3 rfl 82 rfl ?_
      refine kmw_cellsOf hX hK hD q1848 (Nat.le_of_ble_eq_true rfl) (Nat.le_of_ble_eq_true rfl) (Nat.zero_le _) (Nat.zero_le _) (Nat.le_of_ble_eq_true rfl) dX7_first_82 85 rfl h (fun r82 u82 h => ?_)
      refine jj_iadd hX dX7_first_85 86 rfl ?_
      obtain ⟨hi86, h⟩ := h
      refine jr_16 hX hK _ rfl hi86 dX7_first_86 87 rfl ?_
      refine jj_if_ne hX dX7_first_87 96 90 (by decide) rfl (fun c87 => ?_) (fun c87 => ?_)
      · have h := h.1 c87
        refine jt_35 hX hK dX7_first_96 0 rfl dX7_first_97 q1519 100 rfl rfl ?_
        refine jt_36 hX hK dX7_first_100 0 rfl dX7_first_101 q1520 104 rfl rfl ?_
        refine jj_iload hX dX7_first_104 3 rfl 106 rfl ?_
        obtain ⟨hi106, h⟩ := h
        refine jw_17 hX hK hD _ rfl hi106 dX7_first_106 107 rfl (fun u106 e106 => ?_)
        have h := h u106 e106
        refine jj_aload_n hX dX7_first_107 0 rfl 108 rfl ?_
        refine jj_dup hX dX7_first_108 rfl 109 rfl ?_
        refine jg_36 hX hK dX7_first_109 q1520 112 rfl ?_
        refine jj_iconst hX dX7_first_112 ci_1 113 rfl ?_
        refine jj_iadd hX dX7_first_113 114 rfl ?_
        refine jp_36 hX hK hD dX7_first_114 q1520 117 rfl (fun u114 e114 => ?_)
        have h := h u114 e114
        refine jj_aload_n hX dX7_first_117 0 rfl 118 rfl ?_
        refine jj_dup hX dX7_first_118 rfl 119 rfl ?_
        refine jg_37 hX hK dX7_first_119 q1521 122 rfl ?_
        refine jt_0 hX hK dX7_first_122 0 rfl dX7_first_123 q1484 126 rfl rfl ?_
        refine jj_iconst hX dX7_first_126 ci_0 127 rfl ?_
        refine jj_iload hX dX7_first_127 3 rfl 129 rfl ?_
        refine kmw_ruleAt hX MW.keeps q1721 (Nat.le_of_ble_eq_true rfl) (Nat.le_of_ble_eq_true rfl) (Nat.zero_le _) (Nat.zero_le _) (Nat.le_of_ble_eq_true rfl) dX7_first_129 132 rfl h (fun r129 h => ?_)
        obtain ⟨hi132, h⟩ := h
        refine jr_1 hX hK _ rfl hi132 dX7_first_132 133 rfl ?_
        refine jj_iadd hX dX7_first_133 134 rfl ?_
        refine jp_37 hX hK hD dX7_first_134 q1521 137 rfl (fun u134 e134 => ?_)
        have h := h u134 e134
        refine jj_iload hX dX7_first_137 2 rfl 139 rfl ?_
        refine jj_aload_n hX dX7_first_139 0 rfl 140 rfl ?_
        refine jj_iload hX dX7_first_140 3 rfl 142 rfl ?_
        refine kmw_cellsOf hX hK hD q1848 (Nat.le_of_ble_eq_true rfl) (Nat.le_of_ble_eq_true rfl) (Nat.zero_le _) (Nat.zero_le _) (Nat.le_of_ble_eq_true rfl) dX7_first_142 145 rfl h (fun r142 u142 h => ?_)
        refine jj_iadd hX dX7_first_145 146 rfl ?_
        refine jj_topi (fun v146 e146 => ?_)
        have h := h v146 e146
        refine jj_istore (lv2 := [(0, .ref (ad 0)), (2, .int x2), (4, .int v146)]) hX dX7_first_146 (Nat.le_of_ble_eq_true rfl) [1, 2, 0] rfl 148 rfl ?_
        refine jj_goto hX dX7_first_148 52 (by decide) ?_
        exact hK52 _ _ h
      · have h := h.2 c87
        obtain ⟨v90, e90⟩ : ∃ y : Int32, y = x5 + (1 : Int32) := ⟨_, rfl⟩
        have h := h v90 e90
        refine jj_iinc (v := v90) (lv2 := [(0, .ref (ad 0)), (2, .int x2), (4, .int x4), (5, .int v90)]) hX dX7_first_90 3 rfl (by rw [e90, ci_1]) (Nat.le_of_ble_eq_true rfl) [1, 2, 3, 0] rfl 93 rfl ?_
        refine jj_goto hX dX7_first_93 61 (by decide) ?_
        exact ih _ _ h
set_option maxHeartbeats 4000000 in
set_option maxRecDepth 100000 in
theorem tmw_first_L52 {X : JC} {D : va_G} {dA ad : Nat → Nat} {Post : Int32 → MS → Prop} {x2 : Int32} (hX : JX X yX7_first.cls cX7_first 6 (Option.some Jvm.ClassFile.FieldType.int) 4 91 0 0) (hK : KM D dA (jj_s X)) (hD : MD ad) : ∀ (n : Nat) (x4 : Int32) (u : MS), mw_first_L52 Post x2 n x4 u → JJ X (AM ad) (jj_Q X (va_Qi Post (jm_B D dA ad) (AM ad)) 0 0 (AM ad)) 6 (MW D dA ad u) 0 0 52 [(0, .ref (ad 0)), (2, .int x2), (4, .int x4)] [] := by
  intro n
  induction n with
  | zero =>
    intro x4 u h
    exact h.elim
  | succ n ih =>
    intro x4 u h
    have h : mw_first_L52_S Post x2 (mw_first_L52 Post x2 n) x4 u := h
    unfold mw_first_L52_S at h
    refine jj_iload hX dX7_first_52 2 rfl 54 rfl ?_
    refine jj_iload_n hX dX7_first_54 1 rfl 55 rfl ?_
    refine jj_icmp_ge hX dX7_first_55 151 58 (by decide) rfl (fun c55 => ?_) (fun c55 => ?_)
    · have h := h.1 c55
      refine jj_aload_n hX dX7_first_151 0 rfl 152 rfl ?_
      refine jt_36 hX hK dX7_first_152 0 rfl dX7_first_153 q1520 156 rfl rfl ?_
      refine kmw_gives hX hK hD q1752 (Nat.le_of_ble_eq_true rfl) (Nat.le_of_ble_eq_true rfl) (Nat.zero_le _) (Nat.zero_le _) (Nat.le_of_ble_eq_true rfl) dX7_first_156 159 rfl h (fun r156 u156 h => ?_)
      exact jj_reti (post := Post) (u := u156) hX dX7_first_159 (Nat.le_refl 0) (Nat.le_refl 0) jm_hB h
    · have h := h.2 c55
      refine jj_iconst hX dX7_first_58 ci_0 59 rfl ?_
      refine jj_istore (lv2 := [(0, .ref (ad 0)), (2, .int x2), (4, .int x4), (5, .int (0 : Int32))]) hX dX7_first_59 (Nat.le_of_ble_eq_true rfl) [1, 2, 3, 0] rfl 61 rfl ?_
      obtain ⟨n9, h⟩ := h
      exact tmw_first_L61 hX hK hD ih n9 _ _ h
set_option maxHeartbeats 4000000 in
set_option maxRecDepth 100000 in
theorem mmw_first (l : Launch) (D : va_G) (dA ad : Nat → Nat) (hD : MD ad) (x1 : Int32) (x2 : Int32) (u : MS) (Post : Int32 → MS → Prop) (h : mw_first x1 x2 u Post) : Met l yX7_first (ws_ yX7_first cX7_first 6 (Option.some Jvm.ClassFile.FieldType.int)) (jm_rm 4 91) (jm_Pc D dA ad u [.int x1, .int x2]) (va_Qi Post (jm_B D dA ad) (AM ad)) 0 0 (AM ad) := by
  refine jm_start [.int x1, .int x2] [(0, .ref (ad 0)), (1, .int x1), (2, .int x2)] (by decide) (Nat.le_of_ble_eq_true rfl) rfl (fun X hX hK => ?_)
  unfold mw_first at h
  refine jj_aload_n hX dX7_first_0 0 rfl 1 rfl ?_
  refine jj_iload_n hX dX7_first_1 1 rfl 2 rfl ?_
  refine jj_iload_n hX dX7_first_2 2 rfl 3 rfl ?_
  refine jj_iconst hX dX7_first_3 ci_1 4 rfl ?_
  refine kmw_wrongRow hX hK hD q2043 (Nat.le_of_ble_eq_true rfl) (Nat.le_of_ble_eq_true rfl) (Nat.zero_le _) (Nat.zero_le _) (Nat.le_of_ble_eq_true rfl) dX7_first_4 7 rfl h (fun r4 u4 h => ?_)
  refine jj_istore_n (lv2 := [(0, .ref (ad 0)), (1, .int x1), (2, .int x2), (3, .int r4)]) hX dX7_first_7 (Nat.le_of_ble_eq_true rfl) [1, 2, 3, 0] rfl 8 rfl ?_
  refine jj_iload_n hX dX7_first_8 3 rfl 9 rfl ?_
  refine jj_if_le hX dX7_first_9 18 12 (by decide) rfl (fun c9 => ?_) (fun c9 => ?_)
  · have h := h.1 c9
    refine jj_aload_n hX dX7_first_18 0 rfl 19 rfl ?_
    refine jj_iload_n hX dX7_first_19 1 rfl 20 rfl ?_
    refine jj_iload_n hX dX7_first_20 2 rfl 21 rfl ?_
    refine kmw_laysRow hX hK hD q2047 (Nat.le_of_ble_eq_true rfl) (Nat.le_of_ble_eq_true rfl) (Nat.zero_le _) (Nat.zero_le _) (Nat.le_of_ble_eq_true rfl) dX7_first_21 24 rfl h (fun u21 h => ?_)
    refine jj_aload_n hX dX7_first_24 0 rfl 25 rfl ?_
    refine jj_iload_n hX dX7_first_25 2 rfl 26 rfl ?_
    refine kmw_countsWays hX hK hD q2051 (Nat.le_of_ble_eq_true rfl) (Nat.le_of_ble_eq_true rfl) (Nat.zero_le _) (Nat.zero_le _) (Nat.le_of_ble_eq_true rfl) dX7_first_26 29 rfl h (fun r26 u26 h => ?_)
    refine jj_if_ne hX dX7_first_29 39 32 (by decide) rfl (fun c29 => ?_) (fun c29 => ?_)
    · have h := h.1 c29
      refine jj_aload_n hX dX7_first_39 0 rfl 40 rfl ?_
      refine jj_iconst hX dX7_first_40 ci_0 41 rfl ?_
      refine jp_36 hX hK hD dX7_first_41 q1520 44 rfl (fun u41 e41 => ?_)
      have h := h u41 e41
      refine jj_aload_n hX dX7_first_44 0 rfl 45 rfl ?_
      refine jj_iconst hX dX7_first_45 ci_0 46 rfl ?_
      refine jp_37 hX hK hD dX7_first_46 q1521 49 rfl (fun u46 e46 => ?_)
      have h := h u46 e46
      refine jj_iconst hX dX7_first_49 ci_0 50 rfl ?_
      refine jj_istore (lv2 := [(0, .ref (ad 0)), (2, .int x2), (4, .int (0 : Int32))]) hX dX7_first_50 (Nat.le_of_ble_eq_true rfl) [1, 3, 0] rfl 52 rfl ?_
      obtain ⟨n9, h⟩ := h
      exact tmw_first_L52 hX hK hD n9 _ _ h
    · have h := h.2 c29
      refine jj_aload_n hX dX7_first_32 0 rfl 33 rfl ?_
      refine jj_bipush hX dX7_first_33 cb_6 35 rfl ?_
      refine kmw_refuse hX hK hD q1702 (Nat.le_of_ble_eq_true rfl) (Nat.le_of_ble_eq_true rfl) (Nat.zero_le _) (Nat.zero_le _) (Nat.le_of_ble_eq_true rfl) dX7_first_35 38 rfl h (fun r35 u35 h => ?_)
      exact jj_reti (post := Post) (u := u35) hX dX7_first_38 (Nat.le_refl 0) (Nat.le_refl 0) jm_hB h
  · have h := h.2 c9
    refine jj_aload_n hX dX7_first_12 0 rfl 13 rfl ?_
    refine jj_iload_n hX dX7_first_13 3 rfl 14 rfl ?_
    refine kmw_refuse hX hK hD q1702 (Nat.le_of_ble_eq_true rfl) (Nat.le_of_ble_eq_true rfl) (Nat.zero_le _) (Nat.zero_le _) (Nat.le_of_ble_eq_true rfl) dX7_first_14 17 rfl h (fun r14 u14 h => ?_)
    exact jj_reti (post := Post) (u := u14) hX dX7_first_17 (Nat.le_refl 0) (Nat.le_refl 0) jm_hB h
theorem hd_mw_first : yX7_first.cls = RX7 ∧ yX7_first.cls ≠ "java/lang/invoke/MethodHandle" ∧ yX7_first.cls ≠ "java/lang/invoke/VarHandle" ∧ (parseMethodDescriptor yX7_first.desc).map (fun d => d.parameters.length) = some 2 := by decide +kernel
theorem kmw_first {X : JC} {Q : State → Prop} {nL k n pc : Nat} {lv : List (Nat × Value)} {st : List Value} {own : String} {cc : ByteArray} {ret : Option FieldType} {F LL mc ms ix : Nat} {D : va_G} {dA ad : Nat → Nat} {x1 : Int32} {x2 : Int32} {u : MS} {Post : Int32 → MS → Prop} (hX : JX X own cc nL ret F LL mc ms) (hK : KM D dA (jj_s X)) (hD : MD ad) (hlk : (Cond.methodLink own ix yX7_first) ∈ lw_all) (hF : 4 + 1 ≤ F) (hL : 8 + (6 + 11) + 91 ≤ LL) (hk : k ≤ mc) (hk2 : n ≤ ms) (hw : (st.map fun v => v.category).sum ≤ 8) (d : decode cc pc = .ok (.invokevirtual ix, 3)) (q : Nat) (hq : pc + 3 = q) (h : mw_first x1 x2 u Post) (kk : ∀ (r : Int32) (u2 : MS), Post r u2 → JJ X (AM ad) Q nL (MW D dA ad u2) k n q lv (.int r :: st)) : JJ X (AM ad) Q nL (MW D dA ad u) k n pc lv (.int x2 :: .int x1 :: .ref (ad 0) :: st) :=
  jm_calli (na := 2) (As := [.int x1, .int x2]) hX hK (mmw_first (jj_l X) D dA ad hD x1 x2 u Post h) hlk q2061 q2062 q129 q2063 hd_mw_first rfl rfl hw hF hL hk hk2 d q hq kk
/-- RaisedPressModel.firstAt(I)I -/
def mw_firstAt (x1 : Int32) (u : MS) (Post : Int32 → MS → Prop) : Prop :=
  (x1 < 0 →
    mw_refuse (6 : Int32) u (fun r15 u15 =>
      Post r15 u15)) ∧
  (¬ x1 < 0 →
    (x1 < (jm_i u 0 36) →
      vp_in x1 20 ∧
      mw_gives (jm_i u 17 x1.toNatClampNeg) u (fun r28 u28 =>
        Post r28 u28)) ∧
    (¬ x1 < (jm_i u 0 36) →
      mw_refuse (6 : Int32) u (fun r15 u15 =>
        Post r15 u15)))
set_option maxHeartbeats 4000000 in
set_option maxRecDepth 100000 in
theorem mmw_firstAt (l : Launch) (D : va_G) (dA ad : Nat → Nat) (hD : MD ad) (x1 : Int32) (u : MS) (Post : Int32 → MS → Prop) (h : mw_firstAt x1 u Post) : Met l yX7_firstAt (ws_ yX7_firstAt cX7_firstAt 2 (Option.some Jvm.ClassFile.FieldType.int)) (jm_rm 1 21) (jm_Pc D dA ad u [.int x1]) (va_Qi Post (jm_B D dA ad) (AM ad)) 0 0 (AM ad) := by
  refine jm_start [.int x1] [(0, .ref (ad 0)), (1, .int x1)] (by decide) (Nat.le_of_ble_eq_true rfl) rfl (fun X hX hK => ?_)
  unfold mw_firstAt at h
  refine jj_iload_n hX dX7_firstAt_0 1 rfl 1 rfl ?_
  refine jj_if_lt hX dX7_firstAt_1 12 4 (by decide) rfl (fun c1 => ?_) (fun c1 => ?_)
  · have h := h.1 c1
    refine jj_aload_n hX dX7_firstAt_12 0 rfl 13 rfl ?_
    refine jj_bipush hX dX7_firstAt_13 cb_6 15 rfl ?_
    refine kmw_refuse hX hK hD q1702 (Nat.le_of_ble_eq_true rfl) (Nat.le_of_ble_eq_true rfl) (Nat.zero_le _) (Nat.zero_le _) (Nat.le_of_ble_eq_true rfl) dX7_firstAt_15 18 rfl h (fun r15 u15 h => ?_)
    refine jj_goto hX dX7_firstAt_18 31 (by decide) ?_
    exact jj_reti (post := Post) (u := u15) hX dX7_firstAt_31 (Nat.le_refl 0) (Nat.le_refl 0) jm_hB h
  · have h := h.2 c1
    refine jj_iload_n hX dX7_firstAt_4 1 rfl 5 rfl ?_
    refine jt_36 hX hK dX7_firstAt_5 0 rfl dX7_firstAt_6 q1520 9 rfl rfl ?_
    refine jj_icmp_lt hX dX7_firstAt_9 21 12 (by decide) rfl (fun c9 => ?_) (fun c9 => ?_)
    · have h := h.1 c9
      refine jj_aload_n hX dX7_firstAt_21 0 rfl 22 rfl ?_
      refine jt_35 hX hK dX7_firstAt_22 0 rfl dX7_firstAt_23 q1519 26 rfl rfl ?_
      refine jj_iload_n hX dX7_firstAt_26 1 rfl 27 rfl ?_
      obtain ⟨hi27, h⟩ := h
      refine jr_17 hX hK _ rfl hi27 dX7_firstAt_27 28 rfl ?_
      refine kmw_gives hX hK hD q1752 (Nat.le_of_ble_eq_true rfl) (Nat.le_of_ble_eq_true rfl) (Nat.zero_le _) (Nat.zero_le _) (Nat.le_of_ble_eq_true rfl) dX7_firstAt_28 31 rfl h (fun r28 u28 h => ?_)
      exact jj_reti (post := Post) (u := u28) hX dX7_firstAt_31 (Nat.le_refl 0) (Nat.le_refl 0) jm_hB h
    · have h := h.2 c9
      refine jj_aload_n hX dX7_firstAt_12 0 rfl 13 rfl ?_
      refine jj_bipush hX dX7_firstAt_13 cb_6 15 rfl ?_
      refine kmw_refuse hX hK hD q1702 (Nat.le_of_ble_eq_true rfl) (Nat.le_of_ble_eq_true rfl) (Nat.zero_le _) (Nat.zero_le _) (Nat.le_of_ble_eq_true rfl) dX7_firstAt_15 18 rfl h (fun r15 u15 h => ?_)
      refine jj_goto hX dX7_firstAt_18 31 (by decide) ?_
      exact jj_reti (post := Post) (u := u15) hX dX7_firstAt_31 (Nat.le_refl 0) (Nat.le_refl 0) jm_hB h
theorem hd_mw_firstAt : yX7_firstAt.cls = RX7 ∧ yX7_firstAt.cls ≠ "java/lang/invoke/MethodHandle" ∧ yX7_firstAt.cls ≠ "java/lang/invoke/VarHandle" ∧ (parseMethodDescriptor yX7_firstAt.desc).map (fun d => d.parameters.length) = some 1 := by decide +kernel
theorem kmw_firstAt {X : JC} {Q : State → Prop} {nL k n pc : Nat} {lv : List (Nat × Value)} {st : List Value} {own : String} {cc : ByteArray} {ret : Option FieldType} {F LL mc ms ix : Nat} {D : va_G} {dA ad : Nat → Nat} {x1 : Int32} {u : MS} {Post : Int32 → MS → Prop} (hX : JX X own cc nL ret F LL mc ms) (hK : KM D dA (jj_s X)) (hD : MD ad) (hlk : (Cond.methodLink own ix yX7_firstAt) ∈ lw_all) (hF : 1 + 1 ≤ F) (hL : 8 + (2 + 11) + 21 ≤ LL) (hk : k ≤ mc) (hk2 : n ≤ ms) (hw : (st.map fun v => v.category).sum ≤ 8) (d : decode cc pc = .ok (.invokevirtual ix, 3)) (q : Nat) (hq : pc + 3 = q) (h : mw_firstAt x1 u Post) (kk : ∀ (r : Int32) (u2 : MS), Post r u2 → JJ X (AM ad) Q nL (MW D dA ad u2) k n q lv (.int r :: st)) : JJ X (AM ad) Q nL (MW D dA ad u) k n pc lv (.int x1 :: .ref (ad 0) :: st) :=
  jm_calli (na := 1) (As := [.int x1]) hX hK (mmw_firstAt (jj_l X) D dA ad hD x1 u Post h) hlk q2065 q2066 q129 q2067 hd_mw_firstAt rfl rfl hw hF hL hk hk2 d q hq kk
/-- RaisedPressModel.letters()I -/
def mw_letters (u : MS) (Post : Int32 → MS → Prop) : Prop :=
  (¬ (jm_i u 0 36) = (-1 : Int32) →
    mw_gives (jm_i u 0 37) u (fun r22 u22 =>
      Post r22 u22)) ∧
  ((jm_i u 0 36) = (-1 : Int32) →
    mw_refuse (6 : Int32) u (fun r11 u11 =>
      Post r11 u11))
set_option maxHeartbeats 4000000 in
set_option maxRecDepth 100000 in
theorem mmw_letters (l : Launch) (D : va_G) (dA ad : Nat → Nat) (hD : MD ad) (u : MS) (Post : Int32 → MS → Prop) (h : mw_letters  u Post) : Met l yX7_letters (ws_ yX7_letters cX7_letters 1 (Option.some Jvm.ClassFile.FieldType.int)) (jm_rm 1 21) (jm_Pc D dA ad u []) (va_Qi Post (jm_B D dA ad) (AM ad)) 0 0 (AM ad) := by
  refine jm_start [] [(0, .ref (ad 0))] (by decide) (Nat.le_of_ble_eq_true rfl) rfl (fun X hX hK => ?_)
  unfold mw_letters at h
  refine jt_36 hX hK dX7_letters_0 0 rfl dX7_letters_1 q1520 4 rfl rfl ?_
  refine jj_iconst hX dX7_letters_4 ci_m1 5 rfl ?_
  refine jj_icmp_ne hX dX7_letters_5 17 8 (by decide) rfl (fun c5 => ?_) (fun c5 => ?_)
  · have h := h.1 c5
    refine jj_aload_n hX dX7_letters_17 0 rfl 18 rfl ?_
    refine jt_37 hX hK dX7_letters_18 0 rfl dX7_letters_19 q1521 22 rfl rfl ?_
    refine kmw_gives hX hK hD q1752 (Nat.le_of_ble_eq_true rfl) (Nat.le_of_ble_eq_true rfl) (Nat.zero_le _) (Nat.zero_le _) (Nat.le_of_ble_eq_true rfl) dX7_letters_22 25 rfl h (fun r22 u22 h => ?_)
    exact jj_reti (post := Post) (u := u22) hX dX7_letters_25 (Nat.le_refl 0) (Nat.le_refl 0) jm_hB h
  · have h := h.2 c5
    refine jj_aload_n hX dX7_letters_8 0 rfl 9 rfl ?_
    refine jj_bipush hX dX7_letters_9 cb_6 11 rfl ?_
    refine kmw_refuse hX hK hD q1702 (Nat.le_of_ble_eq_true rfl) (Nat.le_of_ble_eq_true rfl) (Nat.zero_le _) (Nat.zero_le _) (Nat.le_of_ble_eq_true rfl) dX7_letters_11 14 rfl h (fun r11 u11 h => ?_)
    refine jj_goto hX dX7_letters_14 25 (by decide) ?_
    exact jj_reti (post := Post) (u := u11) hX dX7_letters_25 (Nat.le_refl 0) (Nat.le_refl 0) jm_hB h
theorem hd_mw_letters : yX7_letters.cls = RX7 ∧ yX7_letters.cls ≠ "java/lang/invoke/MethodHandle" ∧ yX7_letters.cls ≠ "java/lang/invoke/VarHandle" ∧ (parseMethodDescriptor yX7_letters.desc).map (fun d => d.parameters.length) = some 0 := by decide +kernel
theorem kmw_letters {X : JC} {Q : State → Prop} {nL k n pc : Nat} {lv : List (Nat × Value)} {st : List Value} {own : String} {cc : ByteArray} {ret : Option FieldType} {F LL mc ms ix : Nat} {D : va_G} {dA ad : Nat → Nat} {u : MS} {Post : Int32 → MS → Prop} (hX : JX X own cc nL ret F LL mc ms) (hK : KM D dA (jj_s X)) (hD : MD ad) (hlk : (Cond.methodLink own ix yX7_letters) ∈ lw_all) (hF : 1 + 1 ≤ F) (hL : 8 + (1 + 11) + 21 ≤ LL) (hk : k ≤ mc) (hk2 : n ≤ ms) (hw : (st.map fun v => v.category).sum ≤ 8) (d : decode cc pc = .ok (.invokevirtual ix, 3)) (q : Nat) (hq : pc + 3 = q) (h : mw_letters  u Post) (kk : ∀ (r : Int32) (u2 : MS), Post r u2 → JJ X (AM ad) Q nL (MW D dA ad u2) k n q lv (.int r :: st)) : JJ X (AM ad) Q nL (MW D dA ad u) k n pc lv (.ref (ad 0) :: st) :=
  jm_calli (na := 0) (As := []) hX hK (mmw_letters (jj_l X) D dA ad hD  u Post h) hlk q2069 q2070 q129 q2071 hd_mw_letters rfl rfl hw hF hL hk hk2 d q hq kk
def mw_isTrue_L121_S (Post : Int32 → MS → Prop) (x2 : Int32) (R : Int32 → MS → Prop) (x4 : Int32) (u : MS) : Prop :=
  (x2 ≤ x4 →
    Post (1 : Int32) u) ∧
  (¬ x2 ≤ x4 →
    vp_in ((17100 : Int32) + x4) 19800 ∧
    vp_in x4 20 ∧
    ((jm_i u 1 ((17100 : Int32) + x4).toNatClampNeg) = (jm_i u 14 x4.toNatClampNeg) →
      ∀ v150 : Int32, v150 = x4 + (1 : Int32) →
      R v150 u) ∧
    (¬ (jm_i u 1 ((17100 : Int32) + x4).toNatClampNeg) = (jm_i u 14 x4.toNatClampNeg) →
      Post (0 : Int32) u))
def mw_isTrue_L121 (Post : Int32 → MS → Prop) (x2 : Int32) : Nat → Int32 → MS → Prop
  | 0 => fun _ _ => False
  | n + 1 => fun x4 u => mw_isTrue_L121_S Post x2 (mw_isTrue_L121 Post x2 n) x4 u
def mw_isTrue_L27_S (K5 : Int32 → Int32 → MS → Prop) (Post : Int32 → MS → Prop) (x1 : Int32) (x2 : Int32) (x4 : Int32) (x5 : Int32) (R : Int32 → Int32 → MS → Prop) (x3 : Int32) (x6 : Int32) (u : MS) : Prop :=
  vp_in x5 19800 ∧
  ((jm_i u 1 x5.toNatClampNeg) ≤ x6 →
    ∀ v75 : Int32, v75 = x4 + (1 : Int32) →
    K5 x3 v75 u) ∧
  (¬ (jm_i u 1 x5.toNatClampNeg) ≤ x6 →
    vp_in ((x5 + (1 : Int32)) + x6) 19800 ∧
    vp_in ((16800 : Int32) + x3) 19800 ∧
    ∀ u65 : MS, u65 = jm_s u 1 ((16800 : Int32) + x3).toNatClampNeg (((97 : Int32) + (jm_i u 1 ((x5 + (1 : Int32)) + x6).toNatClampNeg)) - (1 : Int32)) →
    ∀ v66 : Int32, v66 = x3 + (1 : Int32) →
    ∀ v69 : Int32, v69 = x6 + (1 : Int32) →
    R v66 v69 u65)
def mw_isTrue_L27 (K5 : Int32 → Int32 → MS → Prop) (Post : Int32 → MS → Prop) (x1 : Int32) (x2 : Int32) (x4 : Int32) (x5 : Int32) : Nat → Int32 → Int32 → MS → Prop
  | 0 => fun _ _ _ => False
  | n + 1 => fun x3 x6 u => mw_isTrue_L27_S K5 Post x1 x2 x4 x5 (mw_isTrue_L27 K5 Post x1 x2 x4 x5 n) x3 x6 u
def mw_isTrue_L5_S (Post : Int32 → MS → Prop) (x1 : Int32) (x2 : Int32) (R : Int32 → Int32 → MS → Prop) (x3 : Int32) (x4 : Int32) (u : MS) : Prop :=
  (x1 ≤ x4 →
    ∀ u89 : MS, u89 = jm_s u 1 16507 x3 →
    mw_setsAll (jm_i u89 1 6) u89 (fun r98 u98 =>
      (r98 = 0 →
        Post (0 : Int32) u98) ∧
      (¬ r98 = 0 →
        ((jm_i u98 1 16508) = x2 →
          ∃ n, mw_isTrue_L121 Post x2 n (0 : Int32) u98) ∧
        (¬ (jm_i u98 1 16508) = x2 →
          Post (0 : Int32) u98)))) ∧
  (¬ x1 ≤ x4 →
    vp_in x4 21 ∧
    mw_ruleAt (0 : Int32) (jm_i u 18 x4.toNatClampNeg) (fun r19 =>
      ∃ n, mw_isTrue_L27 R Post x1 x2 x4 r19 n x3 (0 : Int32) u))
def mw_isTrue_L5 (Post : Int32 → MS → Prop) (x1 : Int32) (x2 : Int32) : Nat → Int32 → Int32 → MS → Prop
  | 0 => fun _ _ _ => False
  | n + 1 => fun x3 x4 u => mw_isTrue_L5_S Post x1 x2 (mw_isTrue_L5 Post x1 x2 n) x3 x4 u
/-- RaisedPressModel.isTrue(II)Z -/
def mw_isTrue (x1 : Int32) (x2 : Int32) (u : MS) (Post : Int32 → MS → Prop) : Prop :=
  ∃ n, mw_isTrue_L5 Post x1 x2 n (0 : Int32) (0 : Int32) u
set_option maxHeartbeats 4000000 in
set_option maxRecDepth 100000 in
theorem tmw_isTrue_L121 {X : JC} {D : va_G} {dA ad : Nat → Nat} {Post : Int32 → MS → Prop} {x2 : Int32} (hX : JX X yX7_isTrue.cls cX7_isTrue 7 (Option.some Jvm.ClassFile.FieldType.boolean) 6 141 0 0) (hK : KM D dA (jj_s X)) (hD : MD ad) : ∀ (n : Nat) (x4 : Int32) (u : MS), mw_isTrue_L121 Post x2 n x4 u → JJ X (AM ad) (jj_Q X (va_Qi (fun r u => Post r u ∧ jj_z r) (jm_B D dA ad) (AM ad)) 0 0 (AM ad)) 7 (MW D dA ad u) 0 0 121 [(0, .ref (ad 0)), (2, .int x2), (4, .int x4)] [] := by
  intro n
  induction n with
  | zero =>
    intro x4 u h
    exact h.elim
  | succ n ih =>
    intro x4 u h
    have h : mw_isTrue_L121_S Post x2 (mw_isTrue_L121 Post x2 n) x4 u := h
    unfold mw_isTrue_L121_S at h
    refine jj_iload hX dX7_isTrue_121 2 rfl 123 rfl ?_
    refine jj_iload_n hX dX7_isTrue_123 1 rfl 124 rfl ?_
    refine jj_icmp_ge hX dX7_isTrue_124 156 127 (by decide) rfl (fun c124 => ?_) (fun c124 => ?_)
    · have h := h.1 c124
      refine jj_iconst hX dX7_isTrue_156 ci_1 157 rfl ?_
      exact jj_retz (post := Post) (u := u) hX dX7_isTrue_157 (Nat.le_refl 0) (Nat.le_refl 0) jm_hB jj_z1 h
    · have h := h.2 c124
      refine jt_0 hX hK dX7_isTrue_127 0 rfl dX7_isTrue_128 q1484 131 rfl rfl ?_
      refine jj_sipush hX dX7_isTrue_131 cs_17100 134 rfl ?_
      refine jj_iload hX dX7_isTrue_134 2 rfl 136 rfl ?_
      refine jj_iadd hX dX7_isTrue_136 137 rfl ?_
      obtain ⟨hi137, h⟩ := h
      refine jr_1 hX hK _ rfl hi137 dX7_isTrue_137 138 rfl ?_
      refine jt_32 hX hK dX7_isTrue_138 0 rfl dX7_isTrue_139 q1516 142 rfl rfl ?_
      refine jj_iload hX dX7_isTrue_142 2 rfl 144 rfl ?_
      obtain ⟨hi144, h⟩ := h
      refine jr_14 hX hK _ rfl hi144 dX7_isTrue_144 145 rfl ?_
      refine jj_icmp_eq hX dX7_isTrue_145 150 148 (by decide) rfl (fun c145 => ?_) (fun c145 => ?_)
      · have h := h.1 c145
        obtain ⟨v150, e150⟩ : ∃ y : Int32, y = x4 + (1 : Int32) := ⟨_, rfl⟩
        have h := h v150 e150
        refine jj_iinc (v := v150) (lv2 := [(0, .ref (ad 0)), (2, .int x2), (4, .int v150)]) hX dX7_isTrue_150 2 rfl (by rw [e150, ci_1]) (Nat.le_of_ble_eq_true rfl) [1, 2, 0] rfl 153 rfl ?_
        refine jj_goto hX dX7_isTrue_153 121 (by decide) ?_
        exact ih _ _ h
      · have h := h.2 c145
        refine jj_iconst hX dX7_isTrue_148 ci_0 149 rfl ?_
        exact jj_retz (post := Post) (u := u) hX dX7_isTrue_149 (Nat.le_refl 0) (Nat.le_refl 0) jm_hB jj_z0 h
set_option maxHeartbeats 4000000 in
set_option maxRecDepth 100000 in
theorem tmw_isTrue_L27 {X : JC} {D : va_G} {dA ad : Nat → Nat} {K5 : Int32 → Int32 → MS → Prop} {Post : Int32 → MS → Prop} {x1 : Int32} {x2 : Int32} {x4 : Int32} {x5 : Int32} (hX : JX X yX7_isTrue.cls cX7_isTrue 7 (Option.some Jvm.ClassFile.FieldType.boolean) 6 141 0 0) (hK : KM D dA (jj_s X)) (hD : MD ad) (hK5 : ∀ (y3 : Int32) (y4 : Int32) (u : MS), K5 y3 y4 u → JJ X (AM ad) (jj_Q X (va_Qi (fun r u => Post r u ∧ jj_z r) (jm_B D dA ad) (AM ad)) 0 0 (AM ad)) 7 (MW D dA ad u) 0 0 5 [(0, .ref (ad 0)), (1, .int x1), (2, .int x2), (3, .int y3), (4, .int y4)] []) : ∀ (n : Nat) (x3 : Int32) (x6 : Int32) (u : MS), mw_isTrue_L27 K5 Post x1 x2 x4 x5 n x3 x6 u → JJ X (AM ad) (jj_Q X (va_Qi (fun r u => Post r u ∧ jj_z r) (jm_B D dA ad) (AM ad)) 0 0 (AM ad)) 7 (MW D dA ad u) 0 0 27 [(0, .ref (ad 0)), (1, .int x1), (2, .int x2), (3, .int x3), (4, .int x4), (5, .int x5), (6, .int x6)] [] := by
  intro n
  induction n with
  | zero =>
    intro x3 x6 u h
    exact h.elim
  | succ n ih =>
    intro x3 x6 u h
    have h : mw_isTrue_L27_S K5 Post x1 x2 x4 x5 (mw_isTrue_L27 K5 Post x1 x2 x4 x5 n) x3 x6 u := h
    unfold mw_isTrue_L27_S at h
    refine jj_iload hX dX7_isTrue_27 6 rfl 29 rfl ?_
    refine jt_0 hX hK dX7_isTrue_29 0 rfl dX7_isTrue_30 q1484 33 rfl rfl ?_
    refine jj_iload hX dX7_isTrue_33 5 rfl 35 rfl ?_
    obtain ⟨hi35, h⟩ := h
    refine jr_1 hX hK _ rfl hi35 dX7_isTrue_35 36 rfl ?_
    refine jj_icmp_ge hX dX7_isTrue_36 75 39 (by decide) rfl (fun c36 => ?_) (fun c36 => ?_)
    · have h := h.1 c36
      obtain ⟨v75, e75⟩ : ∃ y : Int32, y = x4 + (1 : Int32) := ⟨_, rfl⟩
      have h := h v75 e75
      refine jj_iinc (v := v75) (lv2 := [(0, .ref (ad 0)), (1, .int x1), (2, .int x2), (3, .int x3), (4, .int v75), (5, .int x5), (6, .int x6)]) hX dX7_isTrue_75 4 rfl (by rw [e75, ci_1]) (Nat.le_of_ble_eq_true rfl) [1, 2, 3, 4, 0, 5, 6] rfl 78 rfl ?_
      refine jj_goto hX dX7_isTrue_78 5 (by decide) ?_
      refine jj_sub (lv2 := [(0, .ref (ad 0)), (1, .int x1), (2, .int x2), (3, .int x3), (4, .int v75)]) [0, 1, 2, 3, 4] rfl ?_
      exact hK5 _ _ _ h
    · have h := h.2 c36
      refine jt_0 hX hK dX7_isTrue_39 0 rfl dX7_isTrue_40 q1484 43 rfl rfl ?_
      refine jj_sipush hX dX7_isTrue_43 cs_16800 46 rfl ?_
      refine jj_iload_n hX dX7_isTrue_46 3 rfl 47 rfl ?_
      refine jj_iadd hX dX7_isTrue_47 48 rfl ?_
      refine jj_bipush hX dX7_isTrue_48 cb_97 50 rfl ?_
      refine jt_0 hX hK dX7_isTrue_50 0 rfl dX7_isTrue_51 q1484 54 rfl rfl ?_
      refine jj_iload hX dX7_isTrue_54 5 rfl 56 rfl ?_
      refine jj_iconst hX dX7_isTrue_56 ci_1 57 rfl ?_
      refine jj_iadd hX dX7_isTrue_57 58 rfl ?_
      refine jj_iload hX dX7_isTrue_58 6 rfl 60 rfl ?_
      refine jj_iadd hX dX7_isTrue_60 61 rfl ?_
      obtain ⟨hi61, h⟩ := h
      refine jr_1 hX hK _ rfl hi61 dX7_isTrue_61 62 rfl ?_
      refine jj_iadd hX dX7_isTrue_62 63 rfl ?_
      refine jj_iconst hX dX7_isTrue_63 ci_1 64 rfl ?_
      refine jj_isub hX dX7_isTrue_64 65 rfl ?_
      obtain ⟨hi65, h⟩ := h
      refine jw_1 hX hK hD _ rfl hi65 dX7_isTrue_65 66 rfl (fun u65 e65 => ?_)
      have h := h u65 e65
      obtain ⟨v66, e66⟩ : ∃ y : Int32, y = x3 + (1 : Int32) := ⟨_, rfl⟩
      have h := h v66 e66
      refine jj_iinc (v := v66) (lv2 := [(0, .ref (ad 0)), (1, .int x1), (2, .int x2), (3, .int v66), (4, .int x4), (5, .int x5), (6, .int x6)]) hX dX7_isTrue_66 3 rfl (by rw [e66, ci_1]) (Nat.le_of_ble_eq_true rfl) [1, 2, 3, 0, 4, 5, 6] rfl 69 rfl ?_
      obtain ⟨v69, e69⟩ : ∃ y : Int32, y = x6 + (1 : Int32) := ⟨_, rfl⟩
      have h := h v69 e69
      refine jj_iinc (v := v69) (lv2 := [(0, .ref (ad 0)), (1, .int x1), (2, .int x2), (3, .int v66), (4, .int x4), (5, .int x5), (6, .int v69)]) hX dX7_isTrue_69 6 rfl (by rw [e69, ci_1]) (Nat.le_of_ble_eq_true rfl) [1, 2, 3, 4, 5, 6, 0] rfl 72 rfl ?_
      refine jj_goto hX dX7_isTrue_72 27 (by decide) ?_
      exact ih _ _ _ h
set_option maxHeartbeats 4000000 in
set_option maxRecDepth 100000 in
theorem tmw_isTrue_L5 {X : JC} {D : va_G} {dA ad : Nat → Nat} {Post : Int32 → MS → Prop} {x1 : Int32} {x2 : Int32} (hX : JX X yX7_isTrue.cls cX7_isTrue 7 (Option.some Jvm.ClassFile.FieldType.boolean) 6 141 0 0) (hK : KM D dA (jj_s X)) (hD : MD ad) : ∀ (n : Nat) (x3 : Int32) (x4 : Int32) (u : MS), mw_isTrue_L5 Post x1 x2 n x3 x4 u → JJ X (AM ad) (jj_Q X (va_Qi (fun r u => Post r u ∧ jj_z r) (jm_B D dA ad) (AM ad)) 0 0 (AM ad)) 7 (MW D dA ad u) 0 0 5 [(0, .ref (ad 0)), (1, .int x1), (2, .int x2), (3, .int x3), (4, .int x4)] [] := by
  intro n
  induction n with
  | zero =>
    intro x3 x4 u h
    exact h.elim
  | succ n ih =>
    intro x3 x4 u h
    have h : mw_isTrue_L5_S Post x1 x2 (mw_isTrue_L5 Post x1 x2 n) x3 x4 u := h
    unfold mw_isTrue_L5_S at h
    refine jj_iload hX dX7_isTrue_5 4 rfl 7 rfl ?_
    refine jj_iload_n hX dX7_isTrue_7 1 rfl 8 rfl ?_
    refine jj_icmp_ge hX dX7_isTrue_8 81 11 (by decide) rfl (fun c8 => ?_) (fun c8 => ?_)
    · have h := h.1 c8
      refine jt_0 hX hK dX7_isTrue_81 0 rfl dX7_isTrue_82 q1484 85 rfl rfl ?_
      refine jj_sipush hX dX7_isTrue_85 cs_16507 88 rfl ?_
      refine jj_iload_n hX dX7_isTrue_88 3 rfl 89 rfl ?_
      refine jw_1 hX hK hD 16507 kc_16507 vi_1_16507 dX7_isTrue_89 90 rfl (fun u89 e89 => ?_)
      have h := h u89 e89
      refine jj_aload_n hX dX7_isTrue_90 0 rfl 91 rfl ?_
      refine jt_0 hX hK dX7_isTrue_91 0 rfl dX7_isTrue_92 q1484 95 rfl rfl ?_
      refine jj_bipush hX dX7_isTrue_95 cb_6 97 rfl ?_
      refine jr_1 hX hK 6 kc_6 vi_1_6 dX7_isTrue_97 98 rfl ?_
      refine kmw_setsAll hX hK hD q1760 (Nat.le_of_ble_eq_true rfl) (Nat.le_of_ble_eq_true rfl) (Nat.zero_le _) (Nat.zero_le _) (Nat.le_of_ble_eq_true rfl) dX7_isTrue_98 101 rfl h (fun r98 u98 hb98 h => ?_)
      refine jj_if_eq hX dX7_isTrue_101 116 104 (by decide) rfl (fun c101 => ?_) (fun c101 => ?_)
      · have h := h.1 c101
        refine jj_iconst hX dX7_isTrue_116 ci_0 117 rfl ?_
        exact jj_retz (post := Post) (u := u98) hX dX7_isTrue_117 (Nat.le_refl 0) (Nat.le_refl 0) jm_hB jj_z0 h
      · have h := h.2 c101
        refine jt_0 hX hK dX7_isTrue_104 0 rfl dX7_isTrue_105 q1484 108 rfl rfl ?_
        refine jj_sipush hX dX7_isTrue_108 cs_16508 111 rfl ?_
        refine jr_1 hX hK 16508 kc_16508 vi_1_16508 dX7_isTrue_111 112 rfl ?_
        refine jj_iload_n hX dX7_isTrue_112 2 rfl 113 rfl ?_
        refine jj_icmp_eq hX dX7_isTrue_113 118 116 (by decide) rfl (fun c113 => ?_) (fun c113 => ?_)
        · have h := h.1 c113
          refine jj_iconst hX dX7_isTrue_118 ci_0 119 rfl ?_
          refine jj_istore (lv2 := [(0, .ref (ad 0)), (2, .int x2), (4, .int (0 : Int32))]) hX dX7_isTrue_119 (Nat.le_of_ble_eq_true rfl) [1, 3, 0] rfl 121 rfl ?_
          obtain ⟨n9, h⟩ := h
          exact tmw_isTrue_L121 hX hK hD n9 _ _ h
        · have h := h.2 c113
          refine jj_iconst hX dX7_isTrue_116 ci_0 117 rfl ?_
          exact jj_retz (post := Post) (u := u98) hX dX7_isTrue_117 (Nat.le_refl 0) (Nat.le_refl 0) jm_hB jj_z0 h
    · have h := h.2 c8
      refine jj_iconst hX dX7_isTrue_11 ci_0 12 rfl ?_
      refine jt_38 hX hK dX7_isTrue_12 0 rfl dX7_isTrue_13 q1522 16 rfl rfl ?_
      refine jj_iload hX dX7_isTrue_16 4 rfl 18 rfl ?_
      obtain ⟨hi18, h⟩ := h
      refine jr_18 hX hK _ rfl hi18 dX7_isTrue_18 19 rfl ?_
      refine kmw_ruleAt hX MW.keeps q1721 (Nat.le_of_ble_eq_true rfl) (Nat.le_of_ble_eq_true rfl) (Nat.zero_le _) (Nat.zero_le _) (Nat.le_of_ble_eq_true rfl) dX7_isTrue_19 22 rfl h (fun r19 h => ?_)
      refine jj_istore (lv2 := [(0, .ref (ad 0)), (1, .int x1), (2, .int x2), (3, .int x3), (4, .int x4), (5, .int r19)]) hX dX7_isTrue_22 (Nat.le_of_ble_eq_true rfl) [1, 2, 3, 4, 5, 0] rfl 24 rfl ?_
      refine jj_iconst hX dX7_isTrue_24 ci_0 25 rfl ?_
      refine jj_istore (lv2 := [(0, .ref (ad 0)), (1, .int x1), (2, .int x2), (3, .int x3), (4, .int x4), (5, .int r19), (6, .int (0 : Int32))]) hX dX7_isTrue_25 (Nat.le_of_ble_eq_true rfl) [1, 2, 3, 4, 5, 6, 0] rfl 27 rfl ?_
      obtain ⟨n9, h⟩ := h
      exact tmw_isTrue_L27 hX hK hD ih n9 _ _ _ h
set_option maxHeartbeats 4000000 in
set_option maxRecDepth 100000 in
theorem mmw_isTrue (l : Launch) (D : va_G) (dA ad : Nat → Nat) (hD : MD ad) (x1 : Int32) (x2 : Int32) (u : MS) (Post : Int32 → MS → Prop) (h : mw_isTrue x1 x2 u Post) : Met l yX7_isTrue (ws_ yX7_isTrue cX7_isTrue 7 (Option.some Jvm.ClassFile.FieldType.boolean)) (jm_rm 6 141) (jm_Pc D dA ad u [.int x1, .int x2]) (va_Qi (fun r u => Post r u ∧ jj_z r) (jm_B D dA ad) (AM ad)) 0 0 (AM ad) := by
  refine jm_start [.int x1, .int x2] [(0, .ref (ad 0)), (1, .int x1), (2, .int x2)] (by decide) (Nat.le_of_ble_eq_true rfl) rfl (fun X hX hK => ?_)
  unfold mw_isTrue at h
  refine jj_iconst hX dX7_isTrue_0 ci_0 1 rfl ?_
  refine jj_istore_n (lv2 := [(0, .ref (ad 0)), (1, .int x1), (2, .int x2), (3, .int (0 : Int32))]) hX dX7_isTrue_1 (Nat.le_of_ble_eq_true rfl) [1, 2, 3, 0] rfl 2 rfl ?_
  refine jj_iconst hX dX7_isTrue_2 ci_0 3 rfl ?_
  refine jj_istore (lv2 := [(0, .ref (ad 0)), (1, .int x1), (2, .int x2), (3, .int (0 : Int32)), (4, .int (0 : Int32))]) hX dX7_isTrue_3 (Nat.le_of_ble_eq_true rfl) [1, 2, 3, 4, 0] rfl 5 rfl ?_
  obtain ⟨n9, h⟩ := h
  exact tmw_isTrue_L5 hX hK hD n9 _ _ _ h
theorem hd_mw_isTrue : yX7_isTrue.cls = RX7 ∧ yX7_isTrue.cls ≠ "java/lang/invoke/MethodHandle" ∧ yX7_isTrue.cls ≠ "java/lang/invoke/VarHandle" ∧ (parseMethodDescriptor yX7_isTrue.desc).map (fun d => d.parameters.length) = some 2 := by decide +kernel
theorem kmw_isTrue {X : JC} {Q : State → Prop} {nL k n pc : Nat} {lv : List (Nat × Value)} {st : List Value} {own : String} {cc : ByteArray} {ret : Option FieldType} {F LL mc ms ix : Nat} {D : va_G} {dA ad : Nat → Nat} {x1 : Int32} {x2 : Int32} {u : MS} {Post : Int32 → MS → Prop} (hX : JX X own cc nL ret F LL mc ms) (hK : KM D dA (jj_s X)) (hD : MD ad) (hlk : (Cond.methodLink own ix yX7_isTrue) ∈ lw_all) (hF : 6 + 1 ≤ F) (hL : 8 + (7 + 11) + 141 ≤ LL) (hk : k ≤ mc) (hk2 : n ≤ ms) (hw : (st.map fun v => v.category).sum ≤ 8) (d : decode cc pc = .ok (.invokevirtual ix, 3)) (q : Nat) (hq : pc + 3 = q) (h : mw_isTrue x1 x2 u Post) (kk : ∀ (r : Int32) (u2 : MS), jj_z r → Post r u2 → JJ X (AM ad) Q nL (MW D dA ad u2) k n q lv (.int r :: st)) : JJ X (AM ad) Q nL (MW D dA ad u) k n pc lv (.int x2 :: .int x1 :: .ref (ad 0) :: st) :=
  jm_callz (na := 2) (As := [.int x1, .int x2]) hX hK (mmw_isTrue (jj_l X) D dA ad hD x1 x2 u Post h) hlk q2078 qs107 q129 q2079 hd_mw_isTrue rfl rfl hw hF hL hk hk2 d q hq kk
