set_option linter.unusedVariables false
def mw_truths_L62_S (Post : Int32 → MS → Prop) (x2 : Int32) (R : Int32 → Int32 → MS → Prop) (x4 : Int32) (x5 : Int32) (u : MS) : Prop :=
  (x5 < 0 →
    mw_gives x4 u (fun r210 u210 =>
      Post r210 u210)) ∧
  (¬ x5 < 0 →
    vp_in x5 21 ∧
    vp_in x5 21 ∧
    ∀ u77 : MS, u77 = jm_s u 18 x5.toNatClampNeg ((jm_i u 18 x5.toNatClampNeg) + (1 : Int32)) →
    vp_in x5 21 ∧
    ∀ v85 : Int32, v85 = (jm_i u77 18 x5.toNatClampNeg) →
    (¬ v85 = (jm_i u77 1 0) →
      vp_in x5 22 ∧
      mw_reads v85 (jm_i u77 19 x5.toNatClampNeg) x2 u77 (fun r115 u115 =>
        (¬ r115 = 0 →
          vp_in x5 22 ∧
          mw_cellsOf v85 u115 (fun r134 u134 =>
            ∀ v138 : Int32, v138 = ((jm_i u115 19 x5.toNatClampNeg) + r134) →
            vp_in v138 21 ∧
            (¬ (jm_i u134 16 v138.toNatClampNeg) = 0 →
              (¬ v138 = x2 →
                ∀ v184 : Int32, v184 = x5 + (1 : Int32) →
                vp_in v184 21 ∧
                ∀ u194 : MS, u194 = jm_s u134 18 v184.toNatClampNeg (-1 : Int32) →
                vp_in v184 22 ∧
                ∀ u203 : MS, u203 = jm_s u194 19 v184.toNatClampNeg v138 →
                R x4 v184 u203) ∧
              (v138 = x2 →
                mw_isTrue (x5 + (1 : Int32)) x2 u134 (fun r167 u167 =>
                  (r167 = 0 →
                    ∀ v179 : Int32, v179 = (x4 + (0 : Int32)) →
                    R v179 x5 u167) ∧
                  (¬ r167 = 0 →
                    ∀ v179 : Int32, v179 = (x4 + (1 : Int32)) →
                    R v179 x5 u167)))) ∧
            ((jm_i u134 16 v138.toNatClampNeg) = 0 →
              R x4 x5 u134))) ∧
        (r115 = 0 →
          R x4 x5 u115))) ∧
    (v85 = (jm_i u77 1 0) →
      ∀ v98 : Int32, v98 = x5 + (-1 : Int32) →
      R x4 v98 u77))
def mw_truths_L62 (Post : Int32 → MS → Prop) (x2 : Int32) : Nat → Int32 → Int32 → MS → Prop
  | 0 => fun _ _ _ => False
  | n + 1 => fun x4 x5 u => mw_truths_L62_S Post x2 (mw_truths_L62 Post x2 n) x4 x5 u
/-- RaisedPressModel.truths(II)I -/
def mw_truths (x1 : Int32) (x2 : Int32) (u : MS) (Post : Int32 → MS → Prop) : Prop :=
  mw_wrongRow x1 x2 (1 : Int32) u (fun r4 u4 =>
    (r4 ≤ 0 →
      mw_laysRow x1 x2 u4 (fun u21 =>
        mw_countsWays x2 u21 (fun r26 u26 =>
          (r26 ≤ (9999 : Int32) →
            ∀ u54 : MS, u54 = jm_s u26 18 0 (-1 : Int32) →
            ∀ u61 : MS, u61 = jm_s u54 19 0 (0 : Int32) →
            ∃ n, mw_truths_L62 Post x2 n (0 : Int32) (0 : Int32) u61) ∧
          (¬ r26 ≤ (9999 : Int32) →
            mw_refuse (7 : Int32) u26 (fun r38 u38 =>
              Post r38 u38))))) ∧
    (¬ r4 ≤ 0 →
      mw_refuse r4 u4 (fun r14 u14 =>
        Post r14 u14)))
set_option maxHeartbeats 4000000 in
set_option maxRecDepth 100000 in
theorem tmw_truths_L62 {X : JC} {D : va_G} {dA ad : Nat → Nat} {Post : Int32 → MS → Prop} {x2 : Int32} (hX : JX X yX7_truths.cls cX7_truths 8 (Option.some Jvm.ClassFile.FieldType.int) 7 167 0 0) (hK : KM D dA (jj_s X)) (hD : MD ad) : ∀ (n : Nat) (x4 : Int32) (x5 : Int32) (u : MS), mw_truths_L62 Post x2 n x4 x5 u → JJ X (AM ad) (jj_Q X (va_Qi Post (jm_B D dA ad) (AM ad)) 0 0 (AM ad)) 8 (MW D dA ad u) 0 0 62 [(0, .ref (ad 0)), (2, .int x2), (4, .int x4), (5, .int x5)] [] := by
  intro n
  induction n with
  | zero =>
    intro x4 x5 u h
    exact h.elim
  | succ n ih =>
    intro x4 x5 u h
    have h : mw_truths_L62_S Post x2 (mw_truths_L62 Post x2 n) x4 x5 u := h
    unfold mw_truths_L62_S at h
    refine jj_iload hX dX7_truths_62 3 rfl 64 rfl ?_
    refine jj_if_lt hX dX7_truths_64 207 67 (by decide) rfl (fun c64 => ?_) (fun c64 => ?_)
    · have h := h.1 c64
      refine jj_aload_n hX dX7_truths_207 0 rfl 208 rfl ?_
      refine jj_iload hX dX7_truths_208 2 rfl 210 rfl ?_
      refine kmw_gives hX hK hD q1752 (Nat.le_of_ble_eq_true rfl) (Nat.le_of_ble_eq_true rfl) (Nat.zero_le _) (Nat.zero_le _) (Nat.le_of_ble_eq_true rfl) dX7_truths_210 213 rfl h (fun r210 u210 h => ?_)
      exact jj_reti (post := Post) (u := u210) hX dX7_truths_213 (Nat.le_refl 0) (Nat.le_refl 0) jm_hB h
    · have h := h.2 c64
      refine jt_38 hX hK dX7_truths_67 0 rfl dX7_truths_68 q1522 71 rfl rfl ?_
      refine jj_iload hX dX7_truths_71 3 rfl 73 rfl ?_
      refine jj_dup2 hX dX7_truths_73 rfl rfl 74 rfl ?_
      obtain ⟨hi74, h⟩ := h
      refine jr_18 hX hK _ rfl hi74 dX7_truths_74 75 rfl ?_
      refine jj_iconst hX dX7_truths_75 ci_1 76 rfl ?_
      refine jj_iadd hX dX7_truths_76 77 rfl ?_
      obtain ⟨hi77, h⟩ := h
      refine jw_18 hX hK hD _ rfl hi77 dX7_truths_77 78 rfl (fun u77 e77 => ?_)
      have h := h u77 e77
      refine jt_38 hX hK dX7_truths_78 0 rfl dX7_truths_79 q1522 82 rfl rfl ?_
      refine jj_iload hX dX7_truths_82 3 rfl 84 rfl ?_
      obtain ⟨hi84, h⟩ := h
      refine jr_18 hX hK _ rfl hi84 dX7_truths_84 85 rfl ?_
      refine jj_topi (fun v85 e85 => ?_)
      have h := h v85 e85
      refine jj_istore (lv2 := [(0, .ref (ad 0)), (2, .int x2), (4, .int x4), (5, .int x5), (6, .int v85)]) hX dX7_truths_85 (Nat.le_of_ble_eq_true rfl) [1, 2, 3, 4, 0] rfl 87 rfl ?_
      refine jj_iload hX dX7_truths_87 4 rfl 89 rfl ?_
      refine jt_0 hX hK dX7_truths_89 0 rfl dX7_truths_90 q1484 93 rfl rfl ?_
      refine jj_iconst hX dX7_truths_93 ci_0 94 rfl ?_
      refine jr_1 hX hK 0 kc_0 vi_1_0 dX7_truths_94 95 rfl ?_
      refine jj_icmp_ne hX dX7_truths_95 104 98 (by decide) rfl (fun c95 => ?_) (fun c95 => ?_)
      · have h := h.1 c95
        refine jj_aload_n hX dX7_truths_104 0 rfl 105 rfl ?_
        refine jj_iload hX dX7_truths_105 4 rfl 107 rfl ?_
        refine jt_39 hX hK dX7_truths_107 0 rfl dX7_truths_108 q1523 111 rfl rfl ?_
        refine jj_iload hX dX7_truths_111 3 rfl 113 rfl ?_
        obtain ⟨hi113, h⟩ := h
        refine jr_19 hX hK _ rfl hi113 dX7_truths_113 114 rfl ?_
        refine jj_iload_n hX dX7_truths_114 1 rfl 115 rfl ?_
        refine kmw_reads hX hK hD q2055 (Nat.le_of_ble_eq_true rfl) (Nat.le_of_ble_eq_true rfl) (Nat.zero_le _) (Nat.zero_le _) (Nat.le_of_ble_eq_true rfl) dX7_truths_115 118 rfl h (fun r115 u115 hb115 h => ?_)
        refine jj_if_ne hX dX7_truths_118 124 121 (by decide) rfl (fun c118 => ?_) (fun c118 => ?_)
        · have h := h.1 c118
          refine jt_39 hX hK dX7_truths_124 0 rfl dX7_truths_125 q1523 128 rfl rfl ?_
          refine jj_iload hX dX7_truths_128 3 rfl 130 rfl ?_
          obtain ⟨hi130, h⟩ := h
          refine jr_19 hX hK _ rfl hi130 dX7_truths_130 131 rfl ?_
          refine jj_aload_n hX dX7_truths_131 0 rfl 132 rfl ?_
          refine jj_iload hX dX7_truths_132 4 rfl 134 rfl ?_
          refine kmw_cellsOf hX hK hD q1848 (Nat.le_of_ble_eq_true rfl) (Nat.le_of_ble_eq_true rfl) (Nat.zero_le _) (Nat.zero_le _) (Nat.le_of_ble_eq_true rfl) dX7_truths_134 137 rfl h (fun r134 u134 h => ?_)
          refine jj_iadd hX dX7_truths_137 138 rfl ?_
          refine jj_topi (fun v138 e138 => ?_)
          have h := h v138 e138
          refine jj_istore (lv2 := [(0, .ref (ad 0)), (2, .int x2), (4, .int x4), (5, .int x5), (7, .int v138)]) hX dX7_truths_138 (Nat.le_of_ble_eq_true rfl) [1, 2, 3, 4, 0] rfl 140 rfl ?_
          refine jt_34 hX hK dX7_truths_140 0 rfl dX7_truths_141 q1518 144 rfl rfl ?_
          refine jj_iload hX dX7_truths_144 4 rfl 146 rfl ?_
          obtain ⟨hi146, h⟩ := h
          refine jr_16 hX hK _ rfl hi146 dX7_truths_146 147 rfl ?_
          refine jj_if_ne hX dX7_truths_147 153 150 (by decide) rfl (fun c147 => ?_) (fun c147 => ?_)
          · have h := h.1 c147
            refine jj_iload hX dX7_truths_153 4 rfl 155 rfl ?_
            refine jj_iload_n hX dX7_truths_155 1 rfl 156 rfl ?_
            refine jj_icmp_ne hX dX7_truths_156 184 159 (by decide) rfl (fun c156 => ?_) (fun c156 => ?_)
            · have h := h.1 c156
              obtain ⟨v184, e184⟩ : ∃ y : Int32, y = x5 + (1 : Int32) := ⟨_, rfl⟩
              have h := h v184 e184
              refine jj_iinc (v := v184) (lv2 := [(0, .ref (ad 0)), (2, .int x2), (4, .int x4), (5, .int v184), (7, .int v138)]) hX dX7_truths_184 3 rfl (by rw [e184, ci_1]) (Nat.le_of_ble_eq_true rfl) [1, 2, 3, 0, 4] rfl 187 rfl ?_
              refine jt_38 hX hK dX7_truths_187 0 rfl dX7_truths_188 q1522 191 rfl rfl ?_
              refine jj_iload hX dX7_truths_191 3 rfl 193 rfl ?_
              refine jj_iconst hX dX7_truths_193 ci_m1 194 rfl ?_
              obtain ⟨hi194, h⟩ := h
              refine jw_18 hX hK hD _ rfl hi194 dX7_truths_194 195 rfl (fun u194 e194 => ?_)
              have h := h u194 e194
              refine jt_39 hX hK dX7_truths_195 0 rfl dX7_truths_196 q1523 199 rfl rfl ?_
              refine jj_iload hX dX7_truths_199 3 rfl 201 rfl ?_
              refine jj_iload hX dX7_truths_201 4 rfl 203 rfl ?_
              obtain ⟨hi203, h⟩ := h
              refine jw_19 hX hK hD _ rfl hi203 dX7_truths_203 204 rfl (fun u203 e203 => ?_)
              have h := h u203 e203
              refine jj_goto hX dX7_truths_204 62 (by decide) ?_
              refine jj_sub (lv2 := [(0, .ref (ad 0)), (2, .int x2), (4, .int x4), (5, .int v184)]) [0, 1, 2, 3] rfl ?_
              exact ih _ _ _ h
            · have h := h.2 c156
              refine jj_iload hX dX7_truths_159 2 rfl 161 rfl ?_
              refine jj_aload_n hX dX7_truths_161 0 rfl 162 rfl ?_
              refine jj_iload hX dX7_truths_162 3 rfl 164 rfl ?_
              refine jj_iconst hX dX7_truths_164 ci_1 165 rfl ?_
              refine jj_iadd hX dX7_truths_165 166 rfl ?_
              refine jj_iload_n hX dX7_truths_166 1 rfl 167 rfl ?_
              refine kmw_isTrue hX hK hD q2076 (Nat.le_of_ble_eq_true rfl) (Nat.le_of_ble_eq_true rfl) (Nat.zero_le _) (Nat.zero_le _) (Nat.le_of_ble_eq_true rfl) dX7_truths_167 170 rfl h (fun r167 u167 hb167 h => ?_)
              refine jj_if_eq hX dX7_truths_170 177 173 (by decide) rfl (fun c170 => ?_) (fun c170 => ?_)
              · have h := h.1 c170
                refine jj_iconst hX dX7_truths_177 ci_0 178 rfl ?_
                refine jj_iadd hX dX7_truths_178 179 rfl ?_
                refine jj_topi (fun v179 e179 => ?_)
                have h := h v179 e179
                refine jj_istore (lv2 := [(0, .ref (ad 0)), (2, .int x2), (4, .int v179), (5, .int x5)]) hX dX7_truths_179 (Nat.le_of_ble_eq_true rfl) [1, 2, 0, 3] rfl 181 rfl ?_
                refine jj_goto hX dX7_truths_181 62 (by decide) ?_
                exact ih _ _ _ h
              · have h := h.2 c170
                refine jj_iconst hX dX7_truths_173 ci_1 174 rfl ?_
                refine jj_goto hX dX7_truths_174 178 (by decide) ?_
                refine jj_iadd hX dX7_truths_178 179 rfl ?_
                refine jj_topi (fun v179 e179 => ?_)
                have h := h v179 e179
                refine jj_istore (lv2 := [(0, .ref (ad 0)), (2, .int x2), (4, .int v179), (5, .int x5)]) hX dX7_truths_179 (Nat.le_of_ble_eq_true rfl) [1, 2, 0, 3] rfl 181 rfl ?_
                refine jj_goto hX dX7_truths_181 62 (by decide) ?_
                exact ih _ _ _ h
          · have h := h.2 c147
            refine jj_goto hX dX7_truths_150 62 (by decide) ?_
            refine jj_sub (lv2 := [(0, .ref (ad 0)), (2, .int x2), (4, .int x4), (5, .int x5)]) [0, 1, 2, 3] rfl ?_
            exact ih _ _ _ h
        · have h := h.2 c118
          refine jj_goto hX dX7_truths_121 62 (by decide) ?_
          refine jj_sub (lv2 := [(0, .ref (ad 0)), (2, .int x2), (4, .int x4), (5, .int x5)]) [0, 1, 2, 3] rfl ?_
          exact ih _ _ _ h
      · have h := h.2 c95
        obtain ⟨v98, e98⟩ : ∃ y : Int32, y = x5 + (-1 : Int32) := ⟨_, rfl⟩
        have h := h v98 e98
        refine jj_iinc (v := v98) (lv2 := [(0, .ref (ad 0)), (2, .int x2), (4, .int x4), (5, .int v98), (6, .int v85)]) hX dX7_truths_98 3 rfl (by rw [e98, ci_m1]) (Nat.le_of_ble_eq_true rfl) [1, 2, 3, 0, 4] rfl 101 rfl ?_
        refine jj_goto hX dX7_truths_101 62 (by decide) ?_
        refine jj_sub (lv2 := [(0, .ref (ad 0)), (2, .int x2), (4, .int x4), (5, .int v98)]) [0, 1, 2, 3] rfl ?_
        exact ih _ _ _ h
set_option maxHeartbeats 4000000 in
set_option maxRecDepth 100000 in
theorem mmw_truths (l : Launch) (D : va_G) (dA ad : Nat → Nat) (hD : MD ad) (x1 : Int32) (x2 : Int32) (u : MS) (Post : Int32 → MS → Prop) (h : mw_truths x1 x2 u Post) : Met l yX7_truths (ws_ yX7_truths cX7_truths 8 (Option.some Jvm.ClassFile.FieldType.int)) (jm_rm 7 167) (jm_Pc D dA ad u [.int x1, .int x2]) (va_Qi Post (jm_B D dA ad) (AM ad)) 0 0 (AM ad) := by
  refine jm_start [.int x1, .int x2] [(0, .ref (ad 0)), (1, .int x1), (2, .int x2)] (by decide) (Nat.le_of_ble_eq_true rfl) rfl (fun X hX hK => ?_)
  unfold mw_truths at h
  refine jj_aload_n hX dX7_truths_0 0 rfl 1 rfl ?_
  refine jj_iload_n hX dX7_truths_1 1 rfl 2 rfl ?_
  refine jj_iload_n hX dX7_truths_2 2 rfl 3 rfl ?_
  refine jj_iconst hX dX7_truths_3 ci_1 4 rfl ?_
  refine kmw_wrongRow hX hK hD q2043 (Nat.le_of_ble_eq_true rfl) (Nat.le_of_ble_eq_true rfl) (Nat.zero_le _) (Nat.zero_le _) (Nat.le_of_ble_eq_true rfl) dX7_truths_4 7 rfl h (fun r4 u4 h => ?_)
  refine jj_istore_n (lv2 := [(0, .ref (ad 0)), (1, .int x1), (2, .int x2), (3, .int r4)]) hX dX7_truths_7 (Nat.le_of_ble_eq_true rfl) [1, 2, 3, 0] rfl 8 rfl ?_
  refine jj_iload_n hX dX7_truths_8 3 rfl 9 rfl ?_
  refine jj_if_le hX dX7_truths_9 18 12 (by decide) rfl (fun c9 => ?_) (fun c9 => ?_)
  · have h := h.1 c9
    refine jj_aload_n hX dX7_truths_18 0 rfl 19 rfl ?_
    refine jj_iload_n hX dX7_truths_19 1 rfl 20 rfl ?_
    refine jj_iload_n hX dX7_truths_20 2 rfl 21 rfl ?_
    refine kmw_laysRow hX hK hD q2047 (Nat.le_of_ble_eq_true rfl) (Nat.le_of_ble_eq_true rfl) (Nat.zero_le _) (Nat.zero_le _) (Nat.le_of_ble_eq_true rfl) dX7_truths_21 24 rfl h (fun u21 h => ?_)
    refine jj_aload_n hX dX7_truths_24 0 rfl 25 rfl ?_
    refine jj_iload_n hX dX7_truths_25 2 rfl 26 rfl ?_
    refine kmw_countsWays hX hK hD q2051 (Nat.le_of_ble_eq_true rfl) (Nat.le_of_ble_eq_true rfl) (Nat.zero_le _) (Nat.zero_le _) (Nat.le_of_ble_eq_true rfl) dX7_truths_26 29 rfl h (fun r26 u26 h => ?_)
    refine jj_sipush hX dX7_truths_29 cs_9999 32 rfl ?_
    refine jj_icmp_le hX dX7_truths_32 42 35 (by decide) rfl (fun c32 => ?_) (fun c32 => ?_)
    · have h := h.1 c32
      refine jj_iconst hX dX7_truths_42 ci_0 43 rfl ?_
      refine jj_istore (lv2 := [(0, .ref (ad 0)), (2, .int x2), (4, .int (0 : Int32))]) hX dX7_truths_43 (Nat.le_of_ble_eq_true rfl) [1, 3, 0] rfl 45 rfl ?_
      refine jj_iconst hX dX7_truths_45 ci_0 46 rfl ?_
      refine jj_istore (lv2 := [(0, .ref (ad 0)), (2, .int x2), (4, .int (0 : Int32)), (5, .int (0 : Int32))]) hX dX7_truths_46 (Nat.le_of_ble_eq_true rfl) [1, 2, 3, 0] rfl 48 rfl ?_
      refine jt_38 hX hK dX7_truths_48 0 rfl dX7_truths_49 q1522 52 rfl rfl ?_
      refine jj_iconst hX dX7_truths_52 ci_0 53 rfl ?_
      refine jj_iconst hX dX7_truths_53 ci_m1 54 rfl ?_
      refine jw_18 hX hK hD 0 kc_0 vi_18_0 dX7_truths_54 55 rfl (fun u54 e54 => ?_)
      have h := h u54 e54
      refine jt_39 hX hK dX7_truths_55 0 rfl dX7_truths_56 q1523 59 rfl rfl ?_
      refine jj_iconst hX dX7_truths_59 ci_0 60 rfl ?_
      refine jj_iconst hX dX7_truths_60 ci_0 61 rfl ?_
      refine jw_19 hX hK hD 0 kc_0 vi_19_0 dX7_truths_61 62 rfl (fun u61 e61 => ?_)
      have h := h u61 e61
      obtain ⟨n9, h⟩ := h
      exact tmw_truths_L62 hX hK hD n9 _ _ _ h
    · have h := h.2 c32
      refine jj_aload_n hX dX7_truths_35 0 rfl 36 rfl ?_
      refine jj_bipush hX dX7_truths_36 cb_7 38 rfl ?_
      refine kmw_refuse hX hK hD q1702 (Nat.le_of_ble_eq_true rfl) (Nat.le_of_ble_eq_true rfl) (Nat.zero_le _) (Nat.zero_le _) (Nat.le_of_ble_eq_true rfl) dX7_truths_38 41 rfl h (fun r38 u38 h => ?_)
      exact jj_reti (post := Post) (u := u38) hX dX7_truths_41 (Nat.le_refl 0) (Nat.le_refl 0) jm_hB h
  · have h := h.2 c9
    refine jj_aload_n hX dX7_truths_12 0 rfl 13 rfl ?_
    refine jj_iload_n hX dX7_truths_13 3 rfl 14 rfl ?_
    refine kmw_refuse hX hK hD q1702 (Nat.le_of_ble_eq_true rfl) (Nat.le_of_ble_eq_true rfl) (Nat.zero_le _) (Nat.zero_le _) (Nat.le_of_ble_eq_true rfl) dX7_truths_14 17 rfl h (fun r14 u14 h => ?_)
    exact jj_reti (post := Post) (u := u14) hX dX7_truths_17 (Nat.le_refl 0) (Nat.le_refl 0) jm_hB h
theorem hd_mw_truths : yX7_truths.cls = RX7 ∧ yX7_truths.cls ≠ "java/lang/invoke/MethodHandle" ∧ yX7_truths.cls ≠ "java/lang/invoke/VarHandle" ∧ (parseMethodDescriptor yX7_truths.desc).map (fun d => d.parameters.length) = some 2 := by decide +kernel
theorem kmw_truths {X : JC} {Q : State → Prop} {nL k n pc : Nat} {lv : List (Nat × Value)} {st : List Value} {own : String} {cc : ByteArray} {ret : Option FieldType} {F LL mc ms ix : Nat} {D : va_G} {dA ad : Nat → Nat} {x1 : Int32} {x2 : Int32} {u : MS} {Post : Int32 → MS → Prop} (hX : JX X own cc nL ret F LL mc ms) (hK : KM D dA (jj_s X)) (hD : MD ad) (hlk : (Cond.methodLink own ix yX7_truths) ∈ lw_all) (hF : 7 + 1 ≤ F) (hL : 8 + (8 + 11) + 167 ≤ LL) (hk : k ≤ mc) (hk2 : n ≤ ms) (hw : (st.map fun v => v.category).sum ≤ 8) (d : decode cc pc = .ok (.invokevirtual ix, 3)) (q : Nat) (hq : pc + 3 = q) (h : mw_truths x1 x2 u Post) (kk : ∀ (r : Int32) (u2 : MS), Post r u2 → JJ X (AM ad) Q nL (MW D dA ad u2) k n q lv (.int r :: st)) : JJ X (AM ad) Q nL (MW D dA ad u) k n pc lv (.int x2 :: .int x1 :: .ref (ad 0) :: st) :=
  jm_calli (na := 2) (As := [.int x1, .int x2]) hX hK (mmw_truths (jj_l X) D dA ad hD x1 x2 u Post h) hlk q2073 q2074 q129 q2075 hd_mw_truths rfl rfl hw hF hL hk hk2 d q hq kk
def mw_failed_L116_S (Post : Int32 → MS → Prop) (x2 : Int32) (x3 : Int32) (R : Int32 → MS → Prop) (x5 : Int32) (u : MS) : Prop :=
  (x3 ≤ x5 →
    mw_countsWays x3 u (fun r151 u151 =>
      mw_gives r151 u151 (fun r154 u154 =>
        Post r154 u154))) ∧
  (¬ x3 ≤ x5 →
    vp_in (((60 : Int32) * x2) + x5) 240 ∧
    vp_in x5 20 ∧
    ∀ u141 : MS, u141 = jm_s u 15 x5.toNatClampNeg (jm_l u 4 (((60 : Int32) * x2) + x5).toNatClampNeg).toInt32 →
    ∀ v142 : Int32, v142 = x5 + (1 : Int32) →
    R v142 u141)
def mw_failed_L116 (Post : Int32 → MS → Prop) (x2 : Int32) (x3 : Int32) : Nat → Int32 → MS → Prop
  | 0 => fun _ _ => False
  | n + 1 => fun x5 u => mw_failed_L116_S Post x2 x3 (mw_failed_L116 Post x2 x3 n) x5 u
/-- RaisedPressModel.failed(III)I -/
def mw_failed (x1 : Int32) (x2 : Int32) (x3 : Int32) (u : MS) (Post : Int32 → MS → Prop) : Prop :=
  mw_isTray x2 (fun r1 =>
    (¬ r1 = 0 →
      mw_wrongRow x1 x3 (1 : Int32) u (fun r17 u17 =>
        (¬ r17 = (1 : Int32) →
          vp_in x1 4 ∧
          ((jm_i u17 3 x1.toNatClampNeg) = (-1 : Int32) →
            mw_refuse (2 : Int32) u17 (fun r56 u56 =>
              Post r56 u56)) ∧
          (¬ (jm_i u17 3 x1.toNatClampNeg) = (-1 : Int32) →
            vp_in x2 4 ∧
            (¬ (jm_i u17 3 x2.toNatClampNeg) = (-1 : Int32) →
              vp_in x1 4 ∧
              ((jm_i u17 3 x1.toNatClampNeg) < x3 →
                mw_refuse (3 : Int32) u17 (fun r82 u82 =>
                  Post r82 u82)) ∧
              (¬ (jm_i u17 3 x1.toNatClampNeg) < x3 →
                vp_in x2 4 ∧
                (x3 ≤ (jm_i u17 3 x2.toNatClampNeg) →
                  (0 < r17 →
                    mw_refuse (5 : Int32) u17 (fun r103 u103 =>
                      Post r103 u103)) ∧
                  (¬ 0 < r17 →
                    mw_wrongRow x2 x3 (0 : Int32) u17 (fun r95 u95 =>
                      (r95 ≤ 0 →
                        mw_laysRow x1 x3 u95 (fun u110 =>
                          ∃ n, mw_failed_L116 Post x2 x3 n (0 : Int32) u110)) ∧
                      (¬ r95 ≤ 0 →
                        mw_refuse (5 : Int32) u95 (fun r103 u103 =>
                          Post r103 u103))))) ∧
                (¬ x3 ≤ (jm_i u17 3 x2.toNatClampNeg) →
                  mw_refuse (3 : Int32) u17 (fun r82 u82 =>
                    Post r82 u82)))) ∧
            ((jm_i u17 3 x2.toNatClampNeg) = (-1 : Int32) →
              mw_refuse (2 : Int32) u17 (fun r56 u56 =>
                Post r56 u56)))) ∧
        (r17 = (1 : Int32) →
          mw_refuse (1 : Int32) u17 (fun r30 u30 =>
            Post r30 u30)))) ∧
    (r1 = 0 →
      mw_refuse (1 : Int32) u (fun r9 u9 =>
        Post r9 u9)))
set_option maxHeartbeats 4000000 in
set_option maxRecDepth 100000 in
theorem tmw_failed_L116 {X : JC} {D : va_G} {dA ad : Nat → Nat} {Post : Int32 → MS → Prop} {x2 : Int32} {x3 : Int32} (hX : JX X yX7_failed.cls cX7_failed 6 (Option.some Jvm.ClassFile.FieldType.int) 4 91 0 0) (hK : KM D dA (jj_s X)) (hD : MD ad) : ∀ (n : Nat) (x5 : Int32) (u : MS), mw_failed_L116 Post x2 x3 n x5 u → JJ X (AM ad) (jj_Q X (va_Qi Post (jm_B D dA ad) (AM ad)) 0 0 (AM ad)) 6 (MW D dA ad u) 0 0 116 [(0, .ref (ad 0)), (2, .int x2), (3, .int x3), (5, .int x5)] [] := by
  intro n
  induction n with
  | zero =>
    intro x5 u h
    exact h.elim
  | succ n ih =>
    intro x5 u h
    have h : mw_failed_L116_S Post x2 x3 (mw_failed_L116 Post x2 x3 n) x5 u := h
    unfold mw_failed_L116_S at h
    refine jj_iload hX dX7_failed_116 3 rfl 118 rfl ?_
    refine jj_iload_n hX dX7_failed_118 2 rfl 119 rfl ?_
    refine jj_icmp_ge hX dX7_failed_119 148 122 (by decide) rfl (fun c119 => ?_) (fun c119 => ?_)
    · have h := h.1 c119
      refine jj_aload_n hX dX7_failed_148 0 rfl 149 rfl ?_
      refine jj_aload_n hX dX7_failed_149 0 rfl 150 rfl ?_
      refine jj_iload_n hX dX7_failed_150 2 rfl 151 rfl ?_
      refine kmw_countsWays hX hK hD q2051 (Nat.le_of_ble_eq_true rfl) (Nat.le_of_ble_eq_true rfl) (Nat.zero_le _) (Nat.zero_le _) (Nat.le_of_ble_eq_true rfl) dX7_failed_151 154 rfl h (fun r151 u151 h => ?_)
      refine kmw_gives hX hK hD q1752 (Nat.le_of_ble_eq_true rfl) (Nat.le_of_ble_eq_true rfl) (Nat.zero_le _) (Nat.zero_le _) (Nat.le_of_ble_eq_true rfl) dX7_failed_154 157 rfl h (fun r154 u154 h => ?_)
      exact jj_reti (post := Post) (u := u154) hX dX7_failed_157 (Nat.le_refl 0) (Nat.le_refl 0) jm_hB h
    · have h := h.2 c119
      refine jt_33 hX hK dX7_failed_122 0 rfl dX7_failed_123 q1517 126 rfl rfl ?_
      refine jj_iload hX dX7_failed_126 3 rfl 128 rfl ?_
      refine jt_6 hX hK dX7_failed_128 0 rfl dX7_failed_129 q1490 132 rfl rfl ?_
      refine jj_bipush hX dX7_failed_132 cb_60 134 rfl ?_
      refine jj_iload_n hX dX7_failed_134 1 rfl 135 rfl ?_
      refine jj_imul hX dX7_failed_135 136 rfl ?_
      refine jj_iload hX dX7_failed_136 3 rfl 138 rfl ?_
      refine jj_iadd hX dX7_failed_138 139 rfl ?_
      obtain ⟨hi139, h⟩ := h
      refine jr_4 hX hK _ rfl hi139 dX7_failed_139 140 rfl ?_
      refine jj_l2i hX dX7_failed_140 141 rfl ?_
      obtain ⟨hi141, h⟩ := h
      refine jw_15 hX hK hD _ rfl hi141 dX7_failed_141 142 rfl (fun u141 e141 => ?_)
      have h := h u141 e141
      obtain ⟨v142, e142⟩ : ∃ y : Int32, y = x5 + (1 : Int32) := ⟨_, rfl⟩
      have h := h v142 e142
      refine jj_iinc (v := v142) (lv2 := [(0, .ref (ad 0)), (2, .int x2), (3, .int x3), (5, .int v142)]) hX dX7_failed_142 3 rfl (by rw [e142, ci_1]) (Nat.le_of_ble_eq_true rfl) [1, 2, 3, 0] rfl 145 rfl ?_
      refine jj_goto hX dX7_failed_145 116 (by decide) ?_
      exact ih _ _ h
set_option maxHeartbeats 4000000 in
set_option maxRecDepth 100000 in
theorem mmw_failed (l : Launch) (D : va_G) (dA ad : Nat → Nat) (hD : MD ad) (x1 : Int32) (x2 : Int32) (x3 : Int32) (u : MS) (Post : Int32 → MS → Prop) (h : mw_failed x1 x2 x3 u Post) : Met l yX7_failed (ws_ yX7_failed cX7_failed 6 (Option.some Jvm.ClassFile.FieldType.int)) (jm_rm 4 91) (jm_Pc D dA ad u [.int x1, .int x2, .int x3]) (va_Qi Post (jm_B D dA ad) (AM ad)) 0 0 (AM ad) := by
  refine jm_start [.int x1, .int x2, .int x3] [(0, .ref (ad 0)), (1, .int x1), (2, .int x2), (3, .int x3)] (by decide) (Nat.le_of_ble_eq_true rfl) rfl (fun X hX hK => ?_)
  unfold mw_failed at h
  refine jj_iload_n hX dX7_failed_0 2 rfl 1 rfl ?_
  refine kmw_isTray hX MW.keeps q1639 (Nat.le_of_ble_eq_true rfl) (Nat.le_of_ble_eq_true rfl) (Nat.zero_le _) (Nat.zero_le _) (Nat.le_of_ble_eq_true rfl) dX7_failed_1 4 rfl h (fun r1 hb1 h => ?_)
  refine jj_if_ne hX dX7_failed_4 13 7 (by decide) rfl (fun c4 => ?_) (fun c4 => ?_)
  · have h := h.1 c4
    refine jj_aload_n hX dX7_failed_13 0 rfl 14 rfl ?_
    refine jj_iload_n hX dX7_failed_14 1 rfl 15 rfl ?_
    refine jj_iload_n hX dX7_failed_15 3 rfl 16 rfl ?_
    refine jj_iconst hX dX7_failed_16 ci_1 17 rfl ?_
    refine kmw_wrongRow hX hK hD q2043 (Nat.le_of_ble_eq_true rfl) (Nat.le_of_ble_eq_true rfl) (Nat.zero_le _) (Nat.zero_le _) (Nat.le_of_ble_eq_true rfl) dX7_failed_17 20 rfl h (fun r17 u17 h => ?_)
    refine jj_istore (lv2 := [(0, .ref (ad 0)), (1, .int x1), (2, .int x2), (3, .int x3), (4, .int r17)]) hX dX7_failed_20 (Nat.le_of_ble_eq_true rfl) [1, 2, 3, 4, 0] rfl 22 rfl ?_
    refine jj_iload hX dX7_failed_22 4 rfl 24 rfl ?_
    refine jj_iconst hX dX7_failed_24 ci_1 25 rfl ?_
    refine jj_icmp_ne hX dX7_failed_25 34 28 (by decide) rfl (fun c25 => ?_) (fun c25 => ?_)
    · have h := h.1 c25
      refine jt_5 hX hK dX7_failed_34 0 rfl dX7_failed_35 q1489 38 rfl rfl ?_
      refine jj_iload_n hX dX7_failed_38 1 rfl 39 rfl ?_
      obtain ⟨hi39, h⟩ := h
      refine jr_3 hX hK _ rfl hi39 dX7_failed_39 40 rfl ?_
      refine jj_iconst hX dX7_failed_40 ci_m1 41 rfl ?_
      refine jj_icmp_eq hX dX7_failed_41 54 44 (by decide) rfl (fun c41 => ?_) (fun c41 => ?_)
      · have h := h.1 c41
        refine jj_aload_n hX dX7_failed_54 0 rfl 55 rfl ?_
        refine jj_iconst hX dX7_failed_55 ci_2 56 rfl ?_
        refine kmw_refuse hX hK hD q1702 (Nat.le_of_ble_eq_true rfl) (Nat.le_of_ble_eq_true rfl) (Nat.zero_le _) (Nat.zero_le _) (Nat.le_of_ble_eq_true rfl) dX7_failed_56 59 rfl h (fun r56 u56 h => ?_)
        exact jj_reti (post := Post) (u := u56) hX dX7_failed_59 (Nat.le_refl 0) (Nat.le_refl 0) jm_hB h
      · have h := h.2 c41
        refine jt_5 hX hK dX7_failed_44 0 rfl dX7_failed_45 q1489 48 rfl rfl ?_
        refine jj_iload_n hX dX7_failed_48 2 rfl 49 rfl ?_
        obtain ⟨hi49, h⟩ := h
        refine jr_3 hX hK _ rfl hi49 dX7_failed_49 50 rfl ?_
        refine jj_iconst hX dX7_failed_50 ci_m1 51 rfl ?_
        refine jj_icmp_ne hX dX7_failed_51 60 54 (by decide) rfl (fun c51 => ?_) (fun c51 => ?_)
        · have h := h.1 c51
          refine jt_5 hX hK dX7_failed_60 0 rfl dX7_failed_61 q1489 64 rfl rfl ?_
          refine jj_iload_n hX dX7_failed_64 1 rfl 65 rfl ?_
          obtain ⟨hi65, h⟩ := h
          refine jr_3 hX hK _ rfl hi65 dX7_failed_65 66 rfl ?_
          refine jj_iload_n hX dX7_failed_66 3 rfl 67 rfl ?_
          refine jj_icmp_lt hX dX7_failed_67 80 70 (by decide) rfl (fun c67 => ?_) (fun c67 => ?_)
          · have h := h.1 c67
            refine jj_aload_n hX dX7_failed_80 0 rfl 81 rfl ?_
            refine jj_iconst hX dX7_failed_81 ci_3 82 rfl ?_
            refine kmw_refuse hX hK hD q1702 (Nat.le_of_ble_eq_true rfl) (Nat.le_of_ble_eq_true rfl) (Nat.zero_le _) (Nat.zero_le _) (Nat.le_of_ble_eq_true rfl) dX7_failed_82 85 rfl h (fun r82 u82 h => ?_)
            exact jj_reti (post := Post) (u := u82) hX dX7_failed_85 (Nat.le_refl 0) (Nat.le_refl 0) jm_hB h
          · have h := h.2 c67
            refine jt_5 hX hK dX7_failed_70 0 rfl dX7_failed_71 q1489 74 rfl rfl ?_
            refine jj_iload_n hX dX7_failed_74 2 rfl 75 rfl ?_
            obtain ⟨hi75, h⟩ := h
            refine jr_3 hX hK _ rfl hi75 dX7_failed_75 76 rfl ?_
            refine jj_iload_n hX dX7_failed_76 3 rfl 77 rfl ?_
            refine jj_icmp_ge hX dX7_failed_77 86 80 (by decide) rfl (fun c77 => ?_) (fun c77 => ?_)
            · have h := h.1 c77
              refine jj_iload hX dX7_failed_86 4 rfl 88 rfl ?_
              refine jj_if_gt hX dX7_failed_88 101 91 (by decide) rfl (fun c88 => ?_) (fun c88 => ?_)
              · have h := h.1 c88
                refine jj_aload_n hX dX7_failed_101 0 rfl 102 rfl ?_
                refine jj_iconst hX dX7_failed_102 ci_5 103 rfl ?_
                refine kmw_refuse hX hK hD q1702 (Nat.le_of_ble_eq_true rfl) (Nat.le_of_ble_eq_true rfl) (Nat.zero_le _) (Nat.zero_le _) (Nat.le_of_ble_eq_true rfl) dX7_failed_103 106 rfl h (fun r103 u103 h => ?_)
                exact jj_reti (post := Post) (u := u103) hX dX7_failed_106 (Nat.le_refl 0) (Nat.le_refl 0) jm_hB h
              · have h := h.2 c88
                refine jj_aload_n hX dX7_failed_91 0 rfl 92 rfl ?_
                refine jj_iload_n hX dX7_failed_92 2 rfl 93 rfl ?_
                refine jj_iload_n hX dX7_failed_93 3 rfl 94 rfl ?_
                refine jj_iconst hX dX7_failed_94 ci_0 95 rfl ?_
                refine kmw_wrongRow hX hK hD q2043 (Nat.le_of_ble_eq_true rfl) (Nat.le_of_ble_eq_true rfl) (Nat.zero_le _) (Nat.zero_le _) (Nat.le_of_ble_eq_true rfl) dX7_failed_95 98 rfl h (fun r95 u95 h => ?_)
                refine jj_if_le hX dX7_failed_98 107 101 (by decide) rfl (fun c98 => ?_) (fun c98 => ?_)
                · have h := h.1 c98
                  refine jj_aload_n hX dX7_failed_107 0 rfl 108 rfl ?_
                  refine jj_iload_n hX dX7_failed_108 1 rfl 109 rfl ?_
                  refine jj_iload_n hX dX7_failed_109 3 rfl 110 rfl ?_
                  refine kmw_laysRow hX hK hD q2047 (Nat.le_of_ble_eq_true rfl) (Nat.le_of_ble_eq_true rfl) (Nat.zero_le _) (Nat.zero_le _) (Nat.le_of_ble_eq_true rfl) dX7_failed_110 113 rfl h (fun u110 h => ?_)
                  refine jj_iconst hX dX7_failed_113 ci_0 114 rfl ?_
                  refine jj_istore (lv2 := [(0, .ref (ad 0)), (2, .int x2), (3, .int x3), (5, .int (0 : Int32))]) hX dX7_failed_114 (Nat.le_of_ble_eq_true rfl) [1, 3, 4, 0] rfl 116 rfl ?_
                  obtain ⟨n9, h⟩ := h
                  exact tmw_failed_L116 hX hK hD n9 _ _ h
                · have h := h.2 c98
                  refine jj_aload_n hX dX7_failed_101 0 rfl 102 rfl ?_
                  refine jj_iconst hX dX7_failed_102 ci_5 103 rfl ?_
                  refine kmw_refuse hX hK hD q1702 (Nat.le_of_ble_eq_true rfl) (Nat.le_of_ble_eq_true rfl) (Nat.zero_le _) (Nat.zero_le _) (Nat.le_of_ble_eq_true rfl) dX7_failed_103 106 rfl h (fun r103 u103 h => ?_)
                  exact jj_reti (post := Post) (u := u103) hX dX7_failed_106 (Nat.le_refl 0) (Nat.le_refl 0) jm_hB h
            · have h := h.2 c77
              refine jj_aload_n hX dX7_failed_80 0 rfl 81 rfl ?_
              refine jj_iconst hX dX7_failed_81 ci_3 82 rfl ?_
              refine kmw_refuse hX hK hD q1702 (Nat.le_of_ble_eq_true rfl) (Nat.le_of_ble_eq_true rfl) (Nat.zero_le _) (Nat.zero_le _) (Nat.le_of_ble_eq_true rfl) dX7_failed_82 85 rfl h (fun r82 u82 h => ?_)
              exact jj_reti (post := Post) (u := u82) hX dX7_failed_85 (Nat.le_refl 0) (Nat.le_refl 0) jm_hB h
        · have h := h.2 c51
          refine jj_aload_n hX dX7_failed_54 0 rfl 55 rfl ?_
          refine jj_iconst hX dX7_failed_55 ci_2 56 rfl ?_
          refine kmw_refuse hX hK hD q1702 (Nat.le_of_ble_eq_true rfl) (Nat.le_of_ble_eq_true rfl) (Nat.zero_le _) (Nat.zero_le _) (Nat.le_of_ble_eq_true rfl) dX7_failed_56 59 rfl h (fun r56 u56 h => ?_)
          exact jj_reti (post := Post) (u := u56) hX dX7_failed_59 (Nat.le_refl 0) (Nat.le_refl 0) jm_hB h
    · have h := h.2 c25
      refine jj_aload_n hX dX7_failed_28 0 rfl 29 rfl ?_
      refine jj_iconst hX dX7_failed_29 ci_1 30 rfl ?_
      refine kmw_refuse hX hK hD q1702 (Nat.le_of_ble_eq_true rfl) (Nat.le_of_ble_eq_true rfl) (Nat.zero_le _) (Nat.zero_le _) (Nat.le_of_ble_eq_true rfl) dX7_failed_30 33 rfl h (fun r30 u30 h => ?_)
      exact jj_reti (post := Post) (u := u30) hX dX7_failed_33 (Nat.le_refl 0) (Nat.le_refl 0) jm_hB h
  · have h := h.2 c4
    refine jj_aload_n hX dX7_failed_7 0 rfl 8 rfl ?_
    refine jj_iconst hX dX7_failed_8 ci_1 9 rfl ?_
    refine kmw_refuse hX hK hD q1702 (Nat.le_of_ble_eq_true rfl) (Nat.le_of_ble_eq_true rfl) (Nat.zero_le _) (Nat.zero_le _) (Nat.le_of_ble_eq_true rfl) dX7_failed_9 12 rfl h (fun r9 u9 h => ?_)
    exact jj_reti (post := Post) (u := u9) hX dX7_failed_12 (Nat.le_refl 0) (Nat.le_refl 0) jm_hB h
theorem hd_mw_failed : yX7_failed.cls = RX7 ∧ yX7_failed.cls ≠ "java/lang/invoke/MethodHandle" ∧ yX7_failed.cls ≠ "java/lang/invoke/VarHandle" ∧ (parseMethodDescriptor yX7_failed.desc).map (fun d => d.parameters.length) = some 3 := by decide +kernel
theorem kmw_failed {X : JC} {Q : State → Prop} {nL k n pc : Nat} {lv : List (Nat × Value)} {st : List Value} {own : String} {cc : ByteArray} {ret : Option FieldType} {F LL mc ms ix : Nat} {D : va_G} {dA ad : Nat → Nat} {x1 : Int32} {x2 : Int32} {x3 : Int32} {u : MS} {Post : Int32 → MS → Prop} (hX : JX X own cc nL ret F LL mc ms) (hK : KM D dA (jj_s X)) (hD : MD ad) (hlk : (Cond.methodLink own ix yX7_failed) ∈ lw_all) (hF : 4 + 1 ≤ F) (hL : 8 + (6 + 11) + 91 ≤ LL) (hk : k ≤ mc) (hk2 : n ≤ ms) (hw : (st.map fun v => v.category).sum ≤ 8) (d : decode cc pc = .ok (.invokevirtual ix, 3)) (q : Nat) (hq : pc + 3 = q) (h : mw_failed x1 x2 x3 u Post) (kk : ∀ (r : Int32) (u2 : MS), Post r u2 → JJ X (AM ad) Q nL (MW D dA ad u2) k n q lv (.int r :: st)) : JJ X (AM ad) Q nL (MW D dA ad u) k n pc lv (.int x3 :: .int x2 :: .int x1 :: .ref (ad 0) :: st) :=
  jm_calli (na := 3) (As := [.int x1, .int x2, .int x3]) hX hK (mmw_failed (jj_l X) D dA ad hD x1 x2 x3 u Post h) hlk q2081 q2082 q129 q2083 hd_mw_failed rfl rfl hw hF hL hk hk2 d q hq kk
/-- RaisedPressModel.mirrorOf(I)I -/
def mw_mirrorOf (x0 : Int32) (Post : Int32 → Prop) : Prop :=
  Post ((x0 >>> ((3 : Int32) &&& 31)) ||| ((x0 &&& (7 : Int32)) <<< ((3 : Int32) &&& 31)))
set_option maxHeartbeats 4000000 in
set_option maxRecDepth 100000 in
theorem mmw_mirrorOf (l : Launch) (x0 : Int32) (Post : Int32 → Prop) (h : mw_mirrorOf x0 Post) : Met l yX7_mirrorOf (ws_ yX7_mirrorOf cX7_mirrorOf 1 (Option.some Jvm.ClassFile.FieldType.int)) (jm_rm 0 0) (js_Pc [.int x0]) (va_Qi (fun r (_ : Unit) => Post r) js_B js_A) 0 0 js_A := by
  refine js_start [.int x0] [(0, .int x0)] (by decide) (Nat.le_of_ble_eq_true rfl) rfl (fun X hX => ?_)
  unfold mw_mirrorOf at h
  refine jj_iload_n hX dX7_mirrorOf_0 0 rfl 1 rfl ?_
  refine jj_iconst hX dX7_mirrorOf_1 ci_3 2 rfl ?_
  refine jj_ishr hX dX7_mirrorOf_2 3 rfl ?_
  refine jj_iload_n hX dX7_mirrorOf_3 0 rfl 4 rfl ?_
  refine jj_bipush hX dX7_mirrorOf_4 cb_7 6 rfl ?_
  refine jj_iand hX dX7_mirrorOf_6 7 rfl ?_
  refine jj_iconst hX dX7_mirrorOf_7 ci_3 8 rfl ?_
  refine jj_ishl hX dX7_mirrorOf_8 9 rfl ?_
  refine jj_ior hX dX7_mirrorOf_9 10 rfl ?_
  exact jj_reti (post := (fun r (_ : Unit) => Post r)) (u := ()) hX dX7_mirrorOf_10 (Nat.le_refl 0) (Nat.le_refl 0) js_hB h
theorem hd_mw_mirrorOf : yX7_mirrorOf.cls ≠ "java/lang/invoke/MethodHandle" ∧ yX7_mirrorOf.cls ≠ "java/lang/invoke/VarHandle" ∧ (parseMethodDescriptor yX7_mirrorOf.desc).map (fun d => d.parameters.length) = some 1 := by decide +kernel
theorem kmw_mirrorOf {X : JC} {A : Nat → Prop} {Q : State → Prop} {P : Heap → Prop} {nL k n pc : Nat} {lv : List (Nat × Value)} {st : List Value} {own : String} {cc : ByteArray} {ret : Option FieldType} {F LL mc ms ix : Nat} {x0 : Int32} {Post : Int32 → Prop} (hX : JX X own cc nL ret F LL mc ms) (hKP : jj_Keeps P) (hlk : (Cond.methodLink own ix yX7_mirrorOf) ∈ lw_all) (hF : 0 + 1 ≤ F) (hL : 8 + (1 + 11) + 0 ≤ LL) (hk : k ≤ mc) (hk2 : n ≤ ms) (hw : (st.map fun v => v.category).sum ≤ 8) (d : decode cc pc = .ok (.invokestatic ix, 3)) (q : Nat) (hq : pc + 3 = q) (h : mw_mirrorOf x0 Post) (kk : ∀ r : Int32, Post r → JJ X A Q nL P k n q lv (.int r :: st)) : JJ X A Q nL P k n pc lv (.int x0 :: st) :=
  js_calli (na := 1) (As := [.int x0]) hX hKP (mmw_mirrorOf (jj_l X) x0 Post h) hlk q2089 q129 q2090 hd_mw_mirrorOf rfl rfl hw hF hL hk hk2 d q hq kk
/-- RaisedPressModel.mirror(I)I -/
def mw_mirror (x1 : Int32) (u : MS) (Post : Int32 → MS → Prop) : Prop :=
  mw_isFrom x1.toInt64 (0 : Int64) (63 : Int64) (fun r6 =>
    (r6 = 0 →
      mw_refuse (1 : Int32) u (fun r25 u25 =>
        Post r25 u25)) ∧
    (¬ r6 = 0 →
      mw_mirrorOf x1 (fun r14 =>
        mw_gives r14 u (fun r17 u17 =>
          Post r17 u17))))
set_option maxHeartbeats 4000000 in
set_option maxRecDepth 100000 in
theorem mmw_mirror (l : Launch) (D : va_G) (dA ad : Nat → Nat) (hD : MD ad) (x1 : Int32) (u : MS) (Post : Int32 → MS → Prop) (h : mw_mirror x1 u Post) : Met l yX7_mirror (ws_ yX7_mirror cX7_mirror 2 (Option.some Jvm.ClassFile.FieldType.int)) (jm_rm 1 25) (jm_Pc D dA ad u [.int x1]) (va_Qi Post (jm_B D dA ad) (AM ad)) 0 0 (AM ad) := by
  refine jm_start [.int x1] [(0, .ref (ad 0)), (1, .int x1)] (by decide) (Nat.le_of_ble_eq_true rfl) rfl (fun X hX hK => ?_)
  unfold mw_mirror at h
  refine jj_iload_n hX dX7_mirror_0 1 rfl 1 rfl ?_
  refine jj_i2l hX dX7_mirror_1 2 rfl ?_
  refine jj_lconst (v := 0) hX dX7_mirror_2 (by decide) 3 rfl ?_
  refine jj_ldc2 (v := 63) hX dX7_mirror_3 q1968 6 rfl ?_
  refine kmw_isFrom hX MW.keeps q1944 (Nat.le_of_ble_eq_true rfl) (Nat.le_of_ble_eq_true rfl) (Nat.zero_le _) (Nat.zero_le _) (Nat.le_of_ble_eq_true rfl) dX7_mirror_6 9 rfl h (fun r6 hb6 h => ?_)
  refine jj_if_eq hX dX7_mirror_9 23 12 (by decide) rfl (fun c9 => ?_) (fun c9 => ?_)
  · have h := h.1 c9
    refine jj_aload_n hX dX7_mirror_23 0 rfl 24 rfl ?_
    refine jj_iconst hX dX7_mirror_24 ci_1 25 rfl ?_
    refine kmw_refuse hX hK hD q1702 (Nat.le_of_ble_eq_true rfl) (Nat.le_of_ble_eq_true rfl) (Nat.zero_le _) (Nat.zero_le _) (Nat.le_of_ble_eq_true rfl) dX7_mirror_25 28 rfl h (fun r25 u25 h => ?_)
    exact jj_reti (post := Post) (u := u25) hX dX7_mirror_28 (Nat.le_refl 0) (Nat.le_refl 0) jm_hB h
  · have h := h.2 c9
    refine jj_aload_n hX dX7_mirror_12 0 rfl 13 rfl ?_
    refine jj_iload_n hX dX7_mirror_13 1 rfl 14 rfl ?_
    refine kmw_mirrorOf hX MW.keeps q2088 (Nat.le_of_ble_eq_true rfl) (Nat.le_of_ble_eq_true rfl) (Nat.zero_le _) (Nat.zero_le _) (Nat.le_of_ble_eq_true rfl) dX7_mirror_14 17 rfl h (fun r14 h => ?_)
    refine kmw_gives hX hK hD q1752 (Nat.le_of_ble_eq_true rfl) (Nat.le_of_ble_eq_true rfl) (Nat.zero_le _) (Nat.zero_le _) (Nat.le_of_ble_eq_true rfl) dX7_mirror_17 20 rfl h (fun r17 u17 h => ?_)
    refine jj_goto hX dX7_mirror_20 28 (by decide) ?_
    exact jj_reti (post := Post) (u := u17) hX dX7_mirror_28 (Nat.le_refl 0) (Nat.le_refl 0) jm_hB h
theorem hd_mw_mirror : yX7_mirror.cls = RX7 ∧ yX7_mirror.cls ≠ "java/lang/invoke/MethodHandle" ∧ yX7_mirror.cls ≠ "java/lang/invoke/VarHandle" ∧ (parseMethodDescriptor yX7_mirror.desc).map (fun d => d.parameters.length) = some 1 := by decide +kernel
theorem kmw_mirror {X : JC} {Q : State → Prop} {nL k n pc : Nat} {lv : List (Nat × Value)} {st : List Value} {own : String} {cc : ByteArray} {ret : Option FieldType} {F LL mc ms ix : Nat} {D : va_G} {dA ad : Nat → Nat} {x1 : Int32} {u : MS} {Post : Int32 → MS → Prop} (hX : JX X own cc nL ret F LL mc ms) (hK : KM D dA (jj_s X)) (hD : MD ad) (hlk : (Cond.methodLink own ix yX7_mirror) ∈ lw_all) (hF : 1 + 1 ≤ F) (hL : 8 + (2 + 11) + 25 ≤ LL) (hk : k ≤ mc) (hk2 : n ≤ ms) (hw : (st.map fun v => v.category).sum ≤ 8) (d : decode cc pc = .ok (.invokevirtual ix, 3)) (q : Nat) (hq : pc + 3 = q) (h : mw_mirror x1 u Post) (kk : ∀ (r : Int32) (u2 : MS), Post r u2 → JJ X (AM ad) Q nL (MW D dA ad u2) k n q lv (.int r :: st)) : JJ X (AM ad) Q nL (MW D dA ad u) k n pc lv (.int x1 :: .ref (ad 0) :: st) :=
  jm_calli (na := 1) (As := [.int x1]) hX hK (mmw_mirror (jj_l X) D dA ad hD x1 u Post h) hlk q2085 q2086 q129 q2087 hd_mw_mirror rfl rfl hw hF hL hk hk2 d q hq kk
def mw_isMirror_L17_S (Post : Int32 → MS → Prop) (x1 : Int32) (x2 : Int32) (R : Int32 → MS → Prop) (x3 : Int32) (u : MS) : Prop :=
  mw_cellsOf x1 u (fun r20 u20 =>
    (r20 ≤ x3 →
      Post (1 : Int32) u20) ∧
    (¬ r20 ≤ x3 →
      mw_cellAt x2 x3 u20 (fun r29 u29 =>
        mw_cellAt x1 x3 u29 (fun r35 u35 =>
          mw_mirrorOf r35 (fun r38 =>
            (r29 = r38 →
              ∀ v46 : Int32, v46 = x3 + (1 : Int32) →
              R v46 u35) ∧
            (¬ r29 = r38 →
              Post (0 : Int32) u35))))))
def mw_isMirror_L17 (Post : Int32 → MS → Prop) (x1 : Int32) (x2 : Int32) : Nat → Int32 → MS → Prop
  | 0 => fun _ _ => False
  | n + 1 => fun x3 u => mw_isMirror_L17_S Post x1 x2 (mw_isMirror_L17 Post x1 x2 n) x3 u
/-- RaisedPressModel.isMirror(II)Z -/
def mw_isMirror (x1 : Int32) (x2 : Int32) (u : MS) (Post : Int32 → MS → Prop) : Prop :=
  mw_cellsOf x1 u (fun r2 u2 =>
    mw_cellsOf x2 u2 (fun r7 u7 =>
      (r2 = r7 →
        ∃ n, mw_isMirror_L17 Post x1 x2 n (0 : Int32) u7) ∧
      (¬ r2 = r7 →
        Post (0 : Int32) u7)))
set_option maxHeartbeats 4000000 in
set_option maxRecDepth 100000 in
theorem tmw_isMirror_L17 {X : JC} {D : va_G} {dA ad : Nat → Nat} {Post : Int32 → MS → Prop} {x1 : Int32} {x2 : Int32} (hX : JX X yX7_isMirror.cls cX7_isMirror 4 (Option.some Jvm.ClassFile.FieldType.boolean) 2 43 0 0) (hK : KM D dA (jj_s X)) (hD : MD ad) : ∀ (n : Nat) (x3 : Int32) (u : MS), mw_isMirror_L17 Post x1 x2 n x3 u → JJ X (AM ad) (jj_Q X (va_Qi (fun r u => Post r u ∧ jj_z r) (jm_B D dA ad) (AM ad)) 0 0 (AM ad)) 4 (MW D dA ad u) 0 0 17 [(0, .ref (ad 0)), (1, .int x1), (2, .int x2), (3, .int x3)] [] := by
  intro n
  induction n with
  | zero =>
    intro x3 u h
    exact h.elim
  | succ n ih =>
    intro x3 u h
    have h : mw_isMirror_L17_S Post x1 x2 (mw_isMirror_L17 Post x1 x2 n) x3 u := h
    unfold mw_isMirror_L17_S at h
    refine jj_iload_n hX dX7_isMirror_17 3 rfl 18 rfl ?_
    refine jj_aload_n hX dX7_isMirror_18 0 rfl 19 rfl ?_
    refine jj_iload_n hX dX7_isMirror_19 1 rfl 20 rfl ?_
    refine kmw_cellsOf hX hK hD q1848 (Nat.le_of_ble_eq_true rfl) (Nat.le_of_ble_eq_true rfl) (Nat.zero_le _) (Nat.zero_le _) (Nat.le_of_ble_eq_true rfl) dX7_isMirror_20 23 rfl h (fun r20 u20 h => ?_)
    refine jj_icmp_ge hX dX7_isMirror_23 52 26 (by decide) rfl (fun c23 => ?_) (fun c23 => ?_)
    · have h := h.1 c23
      refine jj_iconst hX dX7_isMirror_52 ci_1 53 rfl ?_
      exact jj_retz (post := Post) (u := u20) hX dX7_isMirror_53 (Nat.le_refl 0) (Nat.le_refl 0) jm_hB jj_z1 h
    · have h := h.2 c23
      refine jj_aload_n hX dX7_isMirror_26 0 rfl 27 rfl ?_
      refine jj_iload_n hX dX7_isMirror_27 2 rfl 28 rfl ?_
      refine jj_iload_n hX dX7_isMirror_28 3 rfl 29 rfl ?_
      refine kmw_cellAt hX hK hD q1852 (Nat.le_of_ble_eq_true rfl) (Nat.le_of_ble_eq_true rfl) (Nat.zero_le _) (Nat.zero_le _) (Nat.le_of_ble_eq_true rfl) dX7_isMirror_29 32 rfl h (fun r29 u29 h => ?_)
      refine jj_aload_n hX dX7_isMirror_32 0 rfl 33 rfl ?_
      refine jj_iload_n hX dX7_isMirror_33 1 rfl 34 rfl ?_
      refine jj_iload_n hX dX7_isMirror_34 3 rfl 35 rfl ?_
      refine kmw_cellAt hX hK hD q1852 (Nat.le_of_ble_eq_true rfl) (Nat.le_of_ble_eq_true rfl) (Nat.zero_le _) (Nat.zero_le _) (Nat.le_of_ble_eq_true rfl) dX7_isMirror_35 38 rfl h (fun r35 u35 h => ?_)
      refine kmw_mirrorOf hX MW.keeps q2088 (Nat.le_of_ble_eq_true rfl) (Nat.le_of_ble_eq_true rfl) (Nat.zero_le _) (Nat.zero_le _) (Nat.le_of_ble_eq_true rfl) dX7_isMirror_38 41 rfl h (fun r38 h => ?_)
      refine jj_icmp_eq hX dX7_isMirror_41 46 44 (by decide) rfl (fun c41 => ?_) (fun c41 => ?_)
      · have h := h.1 c41
        obtain ⟨v46, e46⟩ : ∃ y : Int32, y = x3 + (1 : Int32) := ⟨_, rfl⟩
        have h := h v46 e46
        refine jj_iinc (v := v46) (lv2 := [(0, .ref (ad 0)), (1, .int x1), (2, .int x2), (3, .int v46)]) hX dX7_isMirror_46 3 rfl (by rw [e46, ci_1]) (Nat.le_of_ble_eq_true rfl) [1, 2, 3, 0] rfl 49 rfl ?_
        refine jj_goto hX dX7_isMirror_49 17 (by decide) ?_
        exact ih _ _ h
      · have h := h.2 c41
        refine jj_iconst hX dX7_isMirror_44 ci_0 45 rfl ?_
        exact jj_retz (post := Post) (u := u35) hX dX7_isMirror_45 (Nat.le_refl 0) (Nat.le_refl 0) jm_hB jj_z0 h
set_option maxHeartbeats 4000000 in
set_option maxRecDepth 100000 in
theorem mmw_isMirror (l : Launch) (D : va_G) (dA ad : Nat → Nat) (hD : MD ad) (x1 : Int32) (x2 : Int32) (u : MS) (Post : Int32 → MS → Prop) (h : mw_isMirror x1 x2 u Post) : Met l yX7_isMirror (ws_ yX7_isMirror cX7_isMirror 4 (Option.some Jvm.ClassFile.FieldType.boolean)) (jm_rm 2 43) (jm_Pc D dA ad u [.int x1, .int x2]) (va_Qi (fun r u => Post r u ∧ jj_z r) (jm_B D dA ad) (AM ad)) 0 0 (AM ad) := by
  refine jm_start [.int x1, .int x2] [(0, .ref (ad 0)), (1, .int x1), (2, .int x2)] (by decide) (Nat.le_of_ble_eq_true rfl) rfl (fun X hX hK => ?_)
  unfold mw_isMirror at h
  refine jj_aload_n hX dX7_isMirror_0 0 rfl 1 rfl ?_
  refine jj_iload_n hX dX7_isMirror_1 1 rfl 2 rfl ?_
  refine kmw_cellsOf hX hK hD q1848 (Nat.le_of_ble_eq_true rfl) (Nat.le_of_ble_eq_true rfl) (Nat.zero_le _) (Nat.zero_le _) (Nat.le_of_ble_eq_true rfl) dX7_isMirror_2 5 rfl h (fun r2 u2 h => ?_)
  refine jj_aload_n hX dX7_isMirror_5 0 rfl 6 rfl ?_
  refine jj_iload_n hX dX7_isMirror_6 2 rfl 7 rfl ?_
  refine kmw_cellsOf hX hK hD q1848 (Nat.le_of_ble_eq_true rfl) (Nat.le_of_ble_eq_true rfl) (Nat.zero_le _) (Nat.zero_le _) (Nat.le_of_ble_eq_true rfl) dX7_isMirror_7 10 rfl h (fun r7 u7 h => ?_)
  refine jj_icmp_eq hX dX7_isMirror_10 15 13 (by decide) rfl (fun c10 => ?_) (fun c10 => ?_)
  · have h := h.1 c10
    refine jj_iconst hX dX7_isMirror_15 ci_0 16 rfl ?_
    refine jj_istore_n (lv2 := [(0, .ref (ad 0)), (1, .int x1), (2, .int x2), (3, .int (0 : Int32))]) hX dX7_isMirror_16 (Nat.le_of_ble_eq_true rfl) [1, 2, 3, 0] rfl 17 rfl ?_
    obtain ⟨n9, h⟩ := h
    exact tmw_isMirror_L17 hX hK hD n9 _ _ h
  · have h := h.2 c10
    refine jj_iconst hX dX7_isMirror_13 ci_0 14 rfl ?_
    exact jj_retz (post := Post) (u := u7) hX dX7_isMirror_14 (Nat.le_refl 0) (Nat.le_refl 0) jm_hB jj_z0 h
theorem hd_mw_isMirror : yX7_isMirror.cls = RX7 ∧ yX7_isMirror.cls ≠ "java/lang/invoke/MethodHandle" ∧ yX7_isMirror.cls ≠ "java/lang/invoke/VarHandle" ∧ (parseMethodDescriptor yX7_isMirror.desc).map (fun d => d.parameters.length) = some 2 := by decide +kernel
theorem kmw_isMirror {X : JC} {Q : State → Prop} {nL k n pc : Nat} {lv : List (Nat × Value)} {st : List Value} {own : String} {cc : ByteArray} {ret : Option FieldType} {F LL mc ms ix : Nat} {D : va_G} {dA ad : Nat → Nat} {x1 : Int32} {x2 : Int32} {u : MS} {Post : Int32 → MS → Prop} (hX : JX X own cc nL ret F LL mc ms) (hK : KM D dA (jj_s X)) (hD : MD ad) (hlk : (Cond.methodLink own ix yX7_isMirror) ∈ lw_all) (hF : 2 + 1 ≤ F) (hL : 8 + (4 + 11) + 43 ≤ LL) (hk : k ≤ mc) (hk2 : n ≤ ms) (hw : (st.map fun v => v.category).sum ≤ 8) (d : decode cc pc = .ok (.invokevirtual ix, 3)) (q : Nat) (hq : pc + 3 = q) (h : mw_isMirror x1 x2 u Post) (kk : ∀ (r : Int32) (u2 : MS), jj_z r → Post r u2 → JJ X (AM ad) Q nL (MW D dA ad u2) k n q lv (.int r :: st)) : JJ X (AM ad) Q nL (MW D dA ad u) k n pc lv (.int x2 :: .int x1 :: .ref (ad 0) :: st) :=
  jm_callz (na := 2) (As := [.int x1, .int x2]) hX hK (mmw_isMirror (jj_l X) D dA ad hD x1 x2 u Post h) hlk q2097 qs108 q129 q2098 hd_mw_isMirror rfl rfl hw hF hL hk hk2 d q hq kk
def mw_turned_L16_S (Post : Int32 → MS → Prop) (x1 : Int32) (R : Int32 → MS → Prop) (x2 : Int32) (u : MS) : Prop :=
  ((jm_i u 1 0) ≤ x2 →
    mw_refuse (6 : Int32) u (fun r50 u50 =>
      Post r50 u50)) ∧
  (¬ (jm_i u 1 0) ≤ x2 →
    mw_isMirror x1 x2 u (fun r29 u29 =>
      (r29 = 0 →
        ∀ v41 : Int32, v41 = x2 + (1 : Int32) →
        R v41 u29) ∧
      (¬ r29 = 0 →
        mw_gives x2 u29 (fun r37 u37 =>
          Post r37 u37))))
def mw_turned_L16 (Post : Int32 → MS → Prop) (x1 : Int32) : Nat → Int32 → MS → Prop
  | 0 => fun _ _ => False
  | n + 1 => fun x2 u => mw_turned_L16_S Post x1 (mw_turned_L16 Post x1 n) x2 u
/-- RaisedPressModel.turned(I)I -/
def mw_turned (x1 : Int32) (u : MS) (Post : Int32 → MS → Prop) : Prop :=
  mw_isRule x1 u (fun r2 u2 =>
    (¬ r2 = 0 →
      ∃ n, mw_turned_L16 Post x1 n (0 : Int32) u2) ∧
    (r2 = 0 →
      mw_refuse (1 : Int32) u2 (fun r10 u10 =>
        Post r10 u10)))
set_option maxHeartbeats 4000000 in
set_option maxRecDepth 100000 in
theorem tmw_turned_L16 {X : JC} {D : va_G} {dA ad : Nat → Nat} {Post : Int32 → MS → Prop} {x1 : Int32} (hX : JX X yX7_turned.cls cX7_turned 3 (Option.some Jvm.ClassFile.FieldType.int) 3 66 0 0) (hK : KM D dA (jj_s X)) (hD : MD ad) : ∀ (n : Nat) (x2 : Int32) (u : MS), mw_turned_L16 Post x1 n x2 u → JJ X (AM ad) (jj_Q X (va_Qi Post (jm_B D dA ad) (AM ad)) 0 0 (AM ad)) 3 (MW D dA ad u) 0 0 16 [(0, .ref (ad 0)), (1, .int x1), (2, .int x2)] [] := by
  intro n
  induction n with
  | zero =>
    intro x2 u h
    exact h.elim
  | succ n ih =>
    intro x2 u h
    have h : mw_turned_L16_S Post x1 (mw_turned_L16 Post x1 n) x2 u := h
    unfold mw_turned_L16_S at h
    refine jj_iload_n hX dX7_turned_16 2 rfl 17 rfl ?_
    refine jt_0 hX hK dX7_turned_17 0 rfl dX7_turned_18 q1484 21 rfl rfl ?_
    refine jj_iconst hX dX7_turned_21 ci_0 22 rfl ?_
    refine jr_1 hX hK 0 kc_0 vi_1_0 dX7_turned_22 23 rfl ?_
    refine jj_icmp_ge hX dX7_turned_23 47 26 (by decide) rfl (fun c23 => ?_) (fun c23 => ?_)
    · have h := h.1 c23
      refine jj_aload_n hX dX7_turned_47 0 rfl 48 rfl ?_
      refine jj_bipush hX dX7_turned_48 cb_6 50 rfl ?_
      refine kmw_refuse hX hK hD q1702 (Nat.le_of_ble_eq_true rfl) (Nat.le_of_ble_eq_true rfl) (Nat.zero_le _) (Nat.zero_le _) (Nat.le_of_ble_eq_true rfl) dX7_turned_50 53 rfl h (fun r50 u50 h => ?_)
      exact jj_reti (post := Post) (u := u50) hX dX7_turned_53 (Nat.le_refl 0) (Nat.le_refl 0) jm_hB h
    · have h := h.2 c23
      refine jj_aload_n hX dX7_turned_26 0 rfl 27 rfl ?_
      refine jj_iload_n hX dX7_turned_27 1 rfl 28 rfl ?_
      refine jj_iload_n hX dX7_turned_28 2 rfl 29 rfl ?_
      refine kmw_isMirror hX hK hD q2095 (Nat.le_of_ble_eq_true rfl) (Nat.le_of_ble_eq_true rfl) (Nat.zero_le _) (Nat.zero_le _) (Nat.le_of_ble_eq_true rfl) dX7_turned_29 32 rfl h (fun r29 u29 hb29 h => ?_)
      refine jj_if_eq hX dX7_turned_32 41 35 (by decide) rfl (fun c32 => ?_) (fun c32 => ?_)
      · have h := h.1 c32
        obtain ⟨v41, e41⟩ : ∃ y : Int32, y = x2 + (1 : Int32) := ⟨_, rfl⟩
        have h := h v41 e41
        refine jj_iinc (v := v41) (lv2 := [(0, .ref (ad 0)), (1, .int x1), (2, .int v41)]) hX dX7_turned_41 2 rfl (by rw [e41, ci_1]) (Nat.le_of_ble_eq_true rfl) [1, 2, 0] rfl 44 rfl ?_
        refine jj_goto hX dX7_turned_44 16 (by decide) ?_
        exact ih _ _ h
      · have h := h.2 c32
        refine jj_aload_n hX dX7_turned_35 0 rfl 36 rfl ?_
        refine jj_iload_n hX dX7_turned_36 2 rfl 37 rfl ?_
        refine kmw_gives hX hK hD q1752 (Nat.le_of_ble_eq_true rfl) (Nat.le_of_ble_eq_true rfl) (Nat.zero_le _) (Nat.zero_le _) (Nat.le_of_ble_eq_true rfl) dX7_turned_37 40 rfl h (fun r37 u37 h => ?_)
        exact jj_reti (post := Post) (u := u37) hX dX7_turned_40 (Nat.le_refl 0) (Nat.le_refl 0) jm_hB h
set_option maxHeartbeats 4000000 in
set_option maxRecDepth 100000 in
theorem mmw_turned (l : Launch) (D : va_G) (dA ad : Nat → Nat) (hD : MD ad) (x1 : Int32) (u : MS) (Post : Int32 → MS → Prop) (h : mw_turned x1 u Post) : Met l yX7_turned (ws_ yX7_turned cX7_turned 3 (Option.some Jvm.ClassFile.FieldType.int)) (jm_rm 3 66) (jm_Pc D dA ad u [.int x1]) (va_Qi Post (jm_B D dA ad) (AM ad)) 0 0 (AM ad) := by
  refine jm_start [.int x1] [(0, .ref (ad 0)), (1, .int x1)] (by decide) (Nat.le_of_ble_eq_true rfl) rfl (fun X hX hK => ?_)
  unfold mw_turned at h
  refine jj_aload_n hX dX7_turned_0 0 rfl 1 rfl ?_
  refine jj_iload_n hX dX7_turned_1 1 rfl 2 rfl ?_
  refine kmw_isRule hX hK hD q1836 (Nat.le_of_ble_eq_true rfl) (Nat.le_of_ble_eq_true rfl) (Nat.zero_le _) (Nat.zero_le _) (Nat.le_of_ble_eq_true rfl) dX7_turned_2 5 rfl h (fun r2 u2 hb2 h => ?_)
  refine jj_if_ne hX dX7_turned_5 14 8 (by decide) rfl (fun c5 => ?_) (fun c5 => ?_)
  · have h := h.1 c5
    refine jj_iconst hX dX7_turned_14 ci_0 15 rfl ?_
    refine jj_istore_n (lv2 := [(0, .ref (ad 0)), (1, .int x1), (2, .int (0 : Int32))]) hX dX7_turned_15 (Nat.le_of_ble_eq_true rfl) [1, 2, 0] rfl 16 rfl ?_
    obtain ⟨n9, h⟩ := h
    exact tmw_turned_L16 hX hK hD n9 _ _ h
  · have h := h.2 c5
    refine jj_aload_n hX dX7_turned_8 0 rfl 9 rfl ?_
    refine jj_iconst hX dX7_turned_9 ci_1 10 rfl ?_
    refine kmw_refuse hX hK hD q1702 (Nat.le_of_ble_eq_true rfl) (Nat.le_of_ble_eq_true rfl) (Nat.zero_le _) (Nat.zero_le _) (Nat.le_of_ble_eq_true rfl) dX7_turned_10 13 rfl h (fun r10 u10 h => ?_)
    exact jj_reti (post := Post) (u := u10) hX dX7_turned_13 (Nat.le_refl 0) (Nat.le_refl 0) jm_hB h
theorem hd_mw_turned : yX7_turned.cls = RX7 ∧ yX7_turned.cls ≠ "java/lang/invoke/MethodHandle" ∧ yX7_turned.cls ≠ "java/lang/invoke/VarHandle" ∧ (parseMethodDescriptor yX7_turned.desc).map (fun d => d.parameters.length) = some 1 := by decide +kernel
theorem kmw_turned {X : JC} {Q : State → Prop} {nL k n pc : Nat} {lv : List (Nat × Value)} {st : List Value} {own : String} {cc : ByteArray} {ret : Option FieldType} {F LL mc ms ix : Nat} {D : va_G} {dA ad : Nat → Nat} {x1 : Int32} {u : MS} {Post : Int32 → MS → Prop} (hX : JX X own cc nL ret F LL mc ms) (hK : KM D dA (jj_s X)) (hD : MD ad) (hlk : (Cond.methodLink own ix yX7_turned) ∈ lw_all) (hF : 3 + 1 ≤ F) (hL : 8 + (3 + 11) + 66 ≤ LL) (hk : k ≤ mc) (hk2 : n ≤ ms) (hw : (st.map fun v => v.category).sum ≤ 8) (d : decode cc pc = .ok (.invokevirtual ix, 3)) (q : Nat) (hq : pc + 3 = q) (h : mw_turned x1 u Post) (kk : ∀ (r : Int32) (u2 : MS), Post r u2 → JJ X (AM ad) Q nL (MW D dA ad u2) k n q lv (.int r :: st)) : JJ X (AM ad) Q nL (MW D dA ad u) k n pc lv (.int x1 :: .ref (ad 0) :: st) :=
  jm_calli (na := 1) (As := [.int x1]) hX hK (mmw_turned (jj_l X) D dA ad hD x1 u Post h) hlk q2092 q2093 q129 q2094 hd_mw_turned rfl rfl hw hF hL hk hk2 d q hq kk
/-- RaisedPressModel.areIn(II)Z -/
def mw_areIn (x1 : Int32) (x2 : Int32) (u : MS) (Post : Int32 → MS → Prop) : Prop :=
  (x1 = x2 →
    Post (0 : Int32) u) ∧
  (¬ x1 = x2 →
    mw_isOut (jm_i u 1 6) x1 (fun r13 =>
      (¬ r13 = 0 →
        Post (0 : Int32) u) ∧
      (r13 = 0 →
        mw_isOut (jm_i u 1 6) x2 (fun r27 =>
          (¬ r27 = 0 →
            Post (0 : Int32) u) ∧
          (r27 = 0 →
            Post (1 : Int32) u)))))
set_option maxHeartbeats 4000000 in
set_option maxRecDepth 100000 in
theorem mmw_areIn (l : Launch) (D : va_G) (dA ad : Nat → Nat) (hD : MD ad) (x1 : Int32) (x2 : Int32) (u : MS) (Post : Int32 → MS → Prop) (h : mw_areIn x1 x2 u Post) : Met l yX7_areIn (ws_ yX7_areIn cX7_areIn 3 (Option.some Jvm.ClassFile.FieldType.boolean)) (jm_rm 1 21) (jm_Pc D dA ad u [.int x1, .int x2]) (va_Qi (fun r u => Post r u ∧ jj_z r) (jm_B D dA ad) (AM ad)) 0 0 (AM ad) := by
  refine jm_start [.int x1, .int x2] [(0, .ref (ad 0)), (1, .int x1), (2, .int x2)] (by decide) (Nat.le_of_ble_eq_true rfl) rfl (fun X hX hK => ?_)
  unfold mw_areIn at h
  refine jj_iload_n hX dX7_areIn_0 1 rfl 1 rfl ?_
  refine jj_iload_n hX dX7_areIn_1 2 rfl 2 rfl ?_
  refine jj_icmp_eq hX dX7_areIn_2 37 5 (by decide) rfl (fun c2 => ?_) (fun c2 => ?_)
  · have h := h.1 c2
    refine jj_iconst hX dX7_areIn_37 ci_0 38 rfl ?_
    exact jj_retz (post := Post) (u := u) hX dX7_areIn_38 (Nat.le_refl 0) (Nat.le_refl 0) jm_hB jj_z0 h
  · have h := h.2 c2
    refine jt_0 hX hK dX7_areIn_5 0 rfl dX7_areIn_6 q1484 9 rfl rfl ?_
    refine jj_bipush hX dX7_areIn_9 cb_6 11 rfl ?_
    refine jr_1 hX hK 6 kc_6 vi_1_6 dX7_areIn_11 12 rfl ?_
    refine jj_iload_n hX dX7_areIn_12 1 rfl 13 rfl ?_
    refine kmw_isOut hX MW.keeps q1800 (Nat.le_of_ble_eq_true rfl) (Nat.le_of_ble_eq_true rfl) (Nat.zero_le _) (Nat.zero_le _) (Nat.le_of_ble_eq_true rfl) dX7_areIn_13 16 rfl h (fun r13 hb13 h => ?_)
    refine jj_if_ne hX dX7_areIn_16 37 19 (by decide) rfl (fun c16 => ?_) (fun c16 => ?_)
    · have h := h.1 c16
      refine jj_iconst hX dX7_areIn_37 ci_0 38 rfl ?_
      exact jj_retz (post := Post) (u := u) hX dX7_areIn_38 (Nat.le_refl 0) (Nat.le_refl 0) jm_hB jj_z0 h
    · have h := h.2 c16
      refine jt_0 hX hK dX7_areIn_19 0 rfl dX7_areIn_20 q1484 23 rfl rfl ?_
      refine jj_bipush hX dX7_areIn_23 cb_6 25 rfl ?_
      refine jr_1 hX hK 6 kc_6 vi_1_6 dX7_areIn_25 26 rfl ?_
      refine jj_iload_n hX dX7_areIn_26 2 rfl 27 rfl ?_
      refine kmw_isOut hX MW.keeps q1800 (Nat.le_of_ble_eq_true rfl) (Nat.le_of_ble_eq_true rfl) (Nat.zero_le _) (Nat.zero_le _) (Nat.le_of_ble_eq_true rfl) dX7_areIn_27 30 rfl h (fun r27 hb27 h => ?_)
      refine jj_if_ne hX dX7_areIn_30 37 33 (by decide) rfl (fun c30 => ?_) (fun c30 => ?_)
      · have h := h.1 c30
        refine jj_iconst hX dX7_areIn_37 ci_0 38 rfl ?_
        exact jj_retz (post := Post) (u := u) hX dX7_areIn_38 (Nat.le_refl 0) (Nat.le_refl 0) jm_hB jj_z0 h
      · have h := h.2 c30
        refine jj_iconst hX dX7_areIn_33 ci_1 34 rfl ?_
        refine jj_goto hX dX7_areIn_34 38 (by decide) ?_
        exact jj_retz (post := Post) (u := u) hX dX7_areIn_38 (Nat.le_refl 0) (Nat.le_refl 0) jm_hB jj_z1 h
theorem hd_mw_areIn : yX7_areIn.cls = RX7 ∧ yX7_areIn.cls ≠ "java/lang/invoke/MethodHandle" ∧ yX7_areIn.cls ≠ "java/lang/invoke/VarHandle" ∧ (parseMethodDescriptor yX7_areIn.desc).map (fun d => d.parameters.length) = some 2 := by decide +kernel
theorem kmw_areIn {X : JC} {Q : State → Prop} {nL k n pc : Nat} {lv : List (Nat × Value)} {st : List Value} {own : String} {cc : ByteArray} {ret : Option FieldType} {F LL mc ms ix : Nat} {D : va_G} {dA ad : Nat → Nat} {x1 : Int32} {x2 : Int32} {u : MS} {Post : Int32 → MS → Prop} (hX : JX X own cc nL ret F LL mc ms) (hK : KM D dA (jj_s X)) (hD : MD ad) (hlk : (Cond.methodLink own ix yX7_areIn) ∈ lw_all) (hF : 1 + 1 ≤ F) (hL : 8 + (3 + 11) + 21 ≤ LL) (hk : k ≤ mc) (hk2 : n ≤ ms) (hw : (st.map fun v => v.category).sum ≤ 8) (d : decode cc pc = .ok (.invokevirtual ix, 3)) (q : Nat) (hq : pc + 3 = q) (h : mw_areIn x1 x2 u Post) (kk : ∀ (r : Int32) (u2 : MS), jj_z r → Post r u2 → JJ X (AM ad) Q nL (MW D dA ad u2) k n q lv (.int r :: st)) : JJ X (AM ad) Q nL (MW D dA ad u) k n pc lv (.int x2 :: .int x1 :: .ref (ad 0) :: st) :=
  jm_callz (na := 2) (As := [.int x1, .int x2]) hX hK (mmw_areIn (jj_l X) D dA ad hD x1 x2 u Post h) hlk q2105 qs109 q129 q2106 hd_mw_areIn rfl rfl hw hF hL hk hk2 d q hq kk
def mw_doClash_L17_S (Post : Int32 → MS → Prop) (x1 : Int32) (x2 : Int32) (R : Int32 → MS → Prop) (x3 : Int32) (u : MS) : Prop :=
  mw_cellsOf x1 u (fun r20 u20 =>
    (r20 ≤ x3 →
      Post (1 : Int32) u20) ∧
    (¬ r20 ≤ x3 →
      mw_cellAt x1 x3 u20 (fun r29 u29 =>
        mw_cellAt x2 x3 u29 (fun r35 u35 =>
          (r29 = r35 →
            ∀ v43 : Int32, v43 = x3 + (1 : Int32) →
            R v43 u35) ∧
          (¬ r29 = r35 →
            Post (0 : Int32) u35)))))
def mw_doClash_L17 (Post : Int32 → MS → Prop) (x1 : Int32) (x2 : Int32) : Nat → Int32 → MS → Prop
  | 0 => fun _ _ => False
  | n + 1 => fun x3 u => mw_doClash_L17_S Post x1 x2 (mw_doClash_L17 Post x1 x2 n) x3 u
/-- RaisedPressModel.doClash(II)Z -/
def mw_doClash (x1 : Int32) (x2 : Int32) (u : MS) (Post : Int32 → MS → Prop) : Prop :=
  mw_cellsOf x1 u (fun r2 u2 =>
    mw_cellsOf x2 u2 (fun r7 u7 =>
      (r2 ≤ r7 →
        ∃ n, mw_doClash_L17 Post x1 x2 n (0 : Int32) u7) ∧
      (¬ r2 ≤ r7 →
        Post (0 : Int32) u7)))
set_option maxHeartbeats 4000000 in
set_option maxRecDepth 100000 in
theorem tmw_doClash_L17 {X : JC} {D : va_G} {dA ad : Nat → Nat} {Post : Int32 → MS → Prop} {x1 : Int32} {x2 : Int32} (hX : JX X yX7_doClash.cls cX7_doClash 4 (Option.some Jvm.ClassFile.FieldType.boolean) 2 43 0 0) (hK : KM D dA (jj_s X)) (hD : MD ad) : ∀ (n : Nat) (x3 : Int32) (u : MS), mw_doClash_L17 Post x1 x2 n x3 u → JJ X (AM ad) (jj_Q X (va_Qi (fun r u => Post r u ∧ jj_z r) (jm_B D dA ad) (AM ad)) 0 0 (AM ad)) 4 (MW D dA ad u) 0 0 17 [(0, .ref (ad 0)), (1, .int x1), (2, .int x2), (3, .int x3)] [] := by
  intro n
  induction n with
  | zero =>
    intro x3 u h
    exact h.elim
  | succ n ih =>
    intro x3 u h
    have h : mw_doClash_L17_S Post x1 x2 (mw_doClash_L17 Post x1 x2 n) x3 u := h
    unfold mw_doClash_L17_S at h
    refine jj_iload_n hX dX7_doClash_17 3 rfl 18 rfl ?_
    refine jj_aload_n hX dX7_doClash_18 0 rfl 19 rfl ?_
    refine jj_iload_n hX dX7_doClash_19 1 rfl 20 rfl ?_
    refine kmw_cellsOf hX hK hD q1848 (Nat.le_of_ble_eq_true rfl) (Nat.le_of_ble_eq_true rfl) (Nat.zero_le _) (Nat.zero_le _) (Nat.le_of_ble_eq_true rfl) dX7_doClash_20 23 rfl h (fun r20 u20 h => ?_)
    refine jj_icmp_ge hX dX7_doClash_23 49 26 (by decide) rfl (fun c23 => ?_) (fun c23 => ?_)
    · have h := h.1 c23
      refine jj_iconst hX dX7_doClash_49 ci_1 50 rfl ?_
      exact jj_retz (post := Post) (u := u20) hX dX7_doClash_50 (Nat.le_refl 0) (Nat.le_refl 0) jm_hB jj_z1 h
    · have h := h.2 c23
      refine jj_aload_n hX dX7_doClash_26 0 rfl 27 rfl ?_
      refine jj_iload_n hX dX7_doClash_27 1 rfl 28 rfl ?_
      refine jj_iload_n hX dX7_doClash_28 3 rfl 29 rfl ?_
      refine kmw_cellAt hX hK hD q1852 (Nat.le_of_ble_eq_true rfl) (Nat.le_of_ble_eq_true rfl) (Nat.zero_le _) (Nat.zero_le _) (Nat.le_of_ble_eq_true rfl) dX7_doClash_29 32 rfl h (fun r29 u29 h => ?_)
      refine jj_aload_n hX dX7_doClash_32 0 rfl 33 rfl ?_
      refine jj_iload_n hX dX7_doClash_33 2 rfl 34 rfl ?_
      refine jj_iload_n hX dX7_doClash_34 3 rfl 35 rfl ?_
      refine kmw_cellAt hX hK hD q1852 (Nat.le_of_ble_eq_true rfl) (Nat.le_of_ble_eq_true rfl) (Nat.zero_le _) (Nat.zero_le _) (Nat.le_of_ble_eq_true rfl) dX7_doClash_35 38 rfl h (fun r35 u35 h => ?_)
      refine jj_icmp_eq hX dX7_doClash_38 43 41 (by decide) rfl (fun c38 => ?_) (fun c38 => ?_)
      · have h := h.1 c38
        obtain ⟨v43, e43⟩ : ∃ y : Int32, y = x3 + (1 : Int32) := ⟨_, rfl⟩
        have h := h v43 e43
        refine jj_iinc (v := v43) (lv2 := [(0, .ref (ad 0)), (1, .int x1), (2, .int x2), (3, .int v43)]) hX dX7_doClash_43 3 rfl (by rw [e43, ci_1]) (Nat.le_of_ble_eq_true rfl) [1, 2, 3, 0] rfl 46 rfl ?_
        refine jj_goto hX dX7_doClash_46 17 (by decide) ?_
        exact ih _ _ h
      · have h := h.2 c38
        refine jj_iconst hX dX7_doClash_41 ci_0 42 rfl ?_
        exact jj_retz (post := Post) (u := u35) hX dX7_doClash_42 (Nat.le_refl 0) (Nat.le_refl 0) jm_hB jj_z0 h
set_option maxHeartbeats 4000000 in
set_option maxRecDepth 100000 in
theorem mmw_doClash (l : Launch) (D : va_G) (dA ad : Nat → Nat) (hD : MD ad) (x1 : Int32) (x2 : Int32) (u : MS) (Post : Int32 → MS → Prop) (h : mw_doClash x1 x2 u Post) : Met l yX7_doClash (ws_ yX7_doClash cX7_doClash 4 (Option.some Jvm.ClassFile.FieldType.boolean)) (jm_rm 2 43) (jm_Pc D dA ad u [.int x1, .int x2]) (va_Qi (fun r u => Post r u ∧ jj_z r) (jm_B D dA ad) (AM ad)) 0 0 (AM ad) := by
  refine jm_start [.int x1, .int x2] [(0, .ref (ad 0)), (1, .int x1), (2, .int x2)] (by decide) (Nat.le_of_ble_eq_true rfl) rfl (fun X hX hK => ?_)
  unfold mw_doClash at h
  refine jj_aload_n hX dX7_doClash_0 0 rfl 1 rfl ?_
  refine jj_iload_n hX dX7_doClash_1 1 rfl 2 rfl ?_
  refine kmw_cellsOf hX hK hD q1848 (Nat.le_of_ble_eq_true rfl) (Nat.le_of_ble_eq_true rfl) (Nat.zero_le _) (Nat.zero_le _) (Nat.le_of_ble_eq_true rfl) dX7_doClash_2 5 rfl h (fun r2 u2 h => ?_)
  refine jj_aload_n hX dX7_doClash_5 0 rfl 6 rfl ?_
  refine jj_iload_n hX dX7_doClash_6 2 rfl 7 rfl ?_
  refine kmw_cellsOf hX hK hD q1848 (Nat.le_of_ble_eq_true rfl) (Nat.le_of_ble_eq_true rfl) (Nat.zero_le _) (Nat.zero_le _) (Nat.le_of_ble_eq_true rfl) dX7_doClash_7 10 rfl h (fun r7 u7 h => ?_)
  refine jj_icmp_le hX dX7_doClash_10 15 13 (by decide) rfl (fun c10 => ?_) (fun c10 => ?_)
  · have h := h.1 c10
    refine jj_iconst hX dX7_doClash_15 ci_0 16 rfl ?_
    refine jj_istore_n (lv2 := [(0, .ref (ad 0)), (1, .int x1), (2, .int x2), (3, .int (0 : Int32))]) hX dX7_doClash_16 (Nat.le_of_ble_eq_true rfl) [1, 2, 3, 0] rfl 17 rfl ?_
    obtain ⟨n9, h⟩ := h
    exact tmw_doClash_L17 hX hK hD n9 _ _ h
  · have h := h.2 c10
    refine jj_iconst hX dX7_doClash_13 ci_0 14 rfl ?_
    exact jj_retz (post := Post) (u := u7) hX dX7_doClash_14 (Nat.le_refl 0) (Nat.le_refl 0) jm_hB jj_z0 h
theorem hd_mw_doClash : yX7_doClash.cls = RX7 ∧ yX7_doClash.cls ≠ "java/lang/invoke/MethodHandle" ∧ yX7_doClash.cls ≠ "java/lang/invoke/VarHandle" ∧ (parseMethodDescriptor yX7_doClash.desc).map (fun d => d.parameters.length) = some 2 := by decide +kernel
theorem kmw_doClash {X : JC} {Q : State → Prop} {nL k n pc : Nat} {lv : List (Nat × Value)} {st : List Value} {own : String} {cc : ByteArray} {ret : Option FieldType} {F LL mc ms ix : Nat} {D : va_G} {dA ad : Nat → Nat} {x1 : Int32} {x2 : Int32} {u : MS} {Post : Int32 → MS → Prop} (hX : JX X own cc nL ret F LL mc ms) (hK : KM D dA (jj_s X)) (hD : MD ad) (hlk : (Cond.methodLink own ix yX7_doClash) ∈ lw_all) (hF : 2 + 1 ≤ F) (hL : 8 + (4 + 11) + 43 ≤ LL) (hk : k ≤ mc) (hk2 : n ≤ ms) (hw : (st.map fun v => v.category).sum ≤ 8) (d : decode cc pc = .ok (.invokevirtual ix, 3)) (q : Nat) (hq : pc + 3 = q) (h : mw_doClash x1 x2 u Post) (kk : ∀ (r : Int32) (u2 : MS), jj_z r → Post r u2 → JJ X (AM ad) Q nL (MW D dA ad u2) k n q lv (.int r :: st)) : JJ X (AM ad) Q nL (MW D dA ad u) k n pc lv (.int x2 :: .int x1 :: .ref (ad 0) :: st) :=
  jm_callz (na := 2) (As := [.int x1, .int x2]) hX hK (mmw_doClash (jj_l X) D dA ad hD x1 x2 u Post h) hlk q2109 qs110 q129 q2110 hd_mw_doClash rfl rfl hw hF hL hk hk2 d q hq kk
def mw_twins_B53 (K4 : Int32 → Int32 → MS → Prop) (K16 : Int32 → Int32 → MS → Prop) (Post : Int32 → MS → Prop) (x2 : Int32) (x3 : Int32) (s0 : Int32) (u : MS) : Prop :=
  ∀ v55 : Int32, v55 = (s0 + (0 : Int32)) →
  ∀ v56 : Int32, v56 = x3 + (1 : Int32) →
  K16 v55 v56 u
def mw_twins_L16_S (K4 : Int32 → Int32 → MS → Prop) (Post : Int32 → MS → Prop) (x2 : Int32) (R : Int32 → Int32 → MS → Prop) (x1 : Int32) (x3 : Int32) (u : MS) : Prop :=
  (x2 ≤ x3 →
    ∀ v62 : Int32, v62 = x2 + (1 : Int32) →
    K4 x1 v62 u) ∧
  (¬ x2 ≤ x3 →
    mw_areIn x2 x3 u (fun r25 u25 =>
      (r25 = 0 →
        mw_twins_B53 K4 R Post x2 x3 x1 u25) ∧
      (¬ r25 = 0 →
        mw_doClash x2 x3 u25 (fun r34 u34 =>
          (r34 = 0 →
            mw_twins_B53 K4 R Post x2 x3 x1 u34) ∧
          (¬ r34 = 0 →
            mw_doClash x3 x2 u34 (fun r43 u43 =>
              (r43 = 0 →
                mw_twins_B53 K4 R Post x2 x3 x1 u43) ∧
              (¬ r43 = 0 →
                ∀ v55 : Int32, v55 = (x1 + (1 : Int32)) →
                ∀ v56 : Int32, v56 = x3 + (1 : Int32) →
                R v55 v56 u43)))))))
def mw_twins_L16 (K4 : Int32 → Int32 → MS → Prop) (Post : Int32 → MS → Prop) (x2 : Int32) : Nat → Int32 → Int32 → MS → Prop
  | 0 => fun _ _ _ => False
  | n + 1 => fun x1 x3 u => mw_twins_L16_S K4 Post x2 (mw_twins_L16 K4 Post x2 n) x1 x3 u
def mw_twins_L4_S (Post : Int32 → MS → Prop) (R : Int32 → Int32 → MS → Prop) (x1 : Int32) (x2 : Int32) (u : MS) : Prop :=
  ((jm_i u 1 0) ≤ x2 →
    mw_gives x1 u (fun r70 u70 =>
      Post r70 u70)) ∧
  (¬ (jm_i u 1 0) ≤ x2 →
    ∃ n, mw_twins_L16 R Post x2 n x1 (0 : Int32) u)
def mw_twins_L4 (Post : Int32 → MS → Prop) : Nat → Int32 → Int32 → MS → Prop
  | 0 => fun _ _ _ => False
  | n + 1 => fun x1 x2 u => mw_twins_L4_S Post (mw_twins_L4 Post n) x1 x2 u
/-- RaisedPressModel.twins()I -/
def mw_twins (u : MS) (Post : Int32 → MS → Prop) : Prop :=
  ∃ n, mw_twins_L4 Post n (0 : Int32) (0 : Int32) u
set_option maxHeartbeats 4000000 in
set_option maxRecDepth 100000 in
theorem tmw_twins_B53 {X : JC} {D : va_G} {dA ad : Nat → Nat} {K4 : Int32 → Int32 → MS → Prop} {K16 : Int32 → Int32 → MS → Prop} {Post : Int32 → MS → Prop} {x2 : Int32} {x3 : Int32} {s0 : Int32} {u : MS} (hX : JX X yX7_twins.cls cX7_twins 4 (Option.some Jvm.ClassFile.FieldType.int) 3 66 0 0) (hK : KM D dA (jj_s X)) (hD : MD ad) (hK4 : ∀ (y1 : Int32) (y2 : Int32) (u : MS), K4 y1 y2 u → JJ X (AM ad) (jj_Q X (va_Qi Post (jm_B D dA ad) (AM ad)) 0 0 (AM ad)) 4 (MW D dA ad u) 0 0 4 [(0, .ref (ad 0)), (1, .int y1), (2, .int y2)] []) (hK16 : ∀ (y1 : Int32) (y3 : Int32) (u : MS), K16 y1 y3 u → JJ X (AM ad) (jj_Q X (va_Qi Post (jm_B D dA ad) (AM ad)) 0 0 (AM ad)) 4 (MW D dA ad u) 0 0 16 [(0, .ref (ad 0)), (1, .int y1), (2, .int x2), (3, .int y3)] []) (h : mw_twins_B53 K4 K16 Post x2 x3 s0 u) : JJ X (AM ad) (jj_Q X (va_Qi Post (jm_B D dA ad) (AM ad)) 0 0 (AM ad)) 4 (MW D dA ad u) 0 0 53 [(0, .ref (ad 0)), (2, .int x2), (3, .int x3)] [.int s0] := by
  unfold mw_twins_B53 at h
  refine jj_iconst hX dX7_twins_53 ci_0 54 rfl ?_
  refine jj_iadd hX dX7_twins_54 55 rfl ?_
  refine jj_topi (fun v55 e55 => ?_)
  have h := h v55 e55
  refine jj_istore_n (lv2 := [(0, .ref (ad 0)), (1, .int v55), (2, .int x2), (3, .int x3)]) hX dX7_twins_55 (Nat.le_of_ble_eq_true rfl) [1, 0, 2, 3] rfl 56 rfl ?_
  obtain ⟨v56, e56⟩ : ∃ y : Int32, y = x3 + (1 : Int32) := ⟨_, rfl⟩
  have h := h v56 e56
  refine jj_iinc (v := v56) (lv2 := [(0, .ref (ad 0)), (1, .int v55), (2, .int x2), (3, .int v56)]) hX dX7_twins_56 3 rfl (by rw [e56, ci_1]) (Nat.le_of_ble_eq_true rfl) [1, 2, 3, 0] rfl 59 rfl ?_
  refine jj_goto hX dX7_twins_59 16 (by decide) ?_
  exact hK16 _ _ _ h
set_option maxHeartbeats 4000000 in
set_option maxRecDepth 100000 in
theorem tmw_twins_L16 {X : JC} {D : va_G} {dA ad : Nat → Nat} {K4 : Int32 → Int32 → MS → Prop} {Post : Int32 → MS → Prop} {x2 : Int32} (hX : JX X yX7_twins.cls cX7_twins 4 (Option.some Jvm.ClassFile.FieldType.int) 3 66 0 0) (hK : KM D dA (jj_s X)) (hD : MD ad) (hK4 : ∀ (y1 : Int32) (y2 : Int32) (u : MS), K4 y1 y2 u → JJ X (AM ad) (jj_Q X (va_Qi Post (jm_B D dA ad) (AM ad)) 0 0 (AM ad)) 4 (MW D dA ad u) 0 0 4 [(0, .ref (ad 0)), (1, .int y1), (2, .int y2)] []) : ∀ (n : Nat) (x1 : Int32) (x3 : Int32) (u : MS), mw_twins_L16 K4 Post x2 n x1 x3 u → JJ X (AM ad) (jj_Q X (va_Qi Post (jm_B D dA ad) (AM ad)) 0 0 (AM ad)) 4 (MW D dA ad u) 0 0 16 [(0, .ref (ad 0)), (1, .int x1), (2, .int x2), (3, .int x3)] [] := by
  intro n
  induction n with
  | zero =>
    intro x1 x3 u h
    exact h.elim
  | succ n ih =>
    intro x1 x3 u h
    have h : mw_twins_L16_S K4 Post x2 (mw_twins_L16 K4 Post x2 n) x1 x3 u := h
    unfold mw_twins_L16_S at h
    refine jj_iload_n hX dX7_twins_16 3 rfl 17 rfl ?_
    refine jj_iload_n hX dX7_twins_17 2 rfl 18 rfl ?_
    refine jj_icmp_ge hX dX7_twins_18 62 21 (by decide) rfl (fun c18 => ?_) (fun c18 => ?_)
    · have h := h.1 c18
      obtain ⟨v62, e62⟩ : ∃ y : Int32, y = x2 + (1 : Int32) := ⟨_, rfl⟩
      have h := h v62 e62
      refine jj_iinc (v := v62) (lv2 := [(0, .ref (ad 0)), (1, .int x1), (2, .int v62), (3, .int x3)]) hX dX7_twins_62 2 rfl (by rw [e62, ci_1]) (Nat.le_of_ble_eq_true rfl) [1, 2, 0, 3] rfl 65 rfl ?_
      refine jj_goto hX dX7_twins_65 4 (by decide) ?_
      refine jj_sub (lv2 := [(0, .ref (ad 0)), (1, .int x1), (2, .int v62)]) [0, 1, 2] rfl ?_
      exact hK4 _ _ _ h
    · have h := h.2 c18
      refine jj_iload_n hX dX7_twins_21 1 rfl 22 rfl ?_
      refine jj_aload_n hX dX7_twins_22 0 rfl 23 rfl ?_
      refine jj_iload_n hX dX7_twins_23 2 rfl 24 rfl ?_
      refine jj_iload_n hX dX7_twins_24 3 rfl 25 rfl ?_
      refine kmw_areIn hX hK hD q2103 (Nat.le_of_ble_eq_true rfl) (Nat.le_of_ble_eq_true rfl) (Nat.zero_le _) (Nat.zero_le _) (Nat.le_of_ble_eq_true rfl) dX7_twins_25 28 rfl h (fun r25 u25 hb25 h => ?_)
      refine jj_if_eq hX dX7_twins_28 53 31 (by decide) rfl (fun c28 => ?_) (fun c28 => ?_)
      · have h := h.1 c28
        refine jj_sub (lv2 := [(0, .ref (ad 0)), (2, .int x2), (3, .int x3)]) [0, 2, 3] rfl ?_
        exact tmw_twins_B53 hX hK hD hK4 ih h
      · have h := h.2 c28
        refine jj_aload_n hX dX7_twins_31 0 rfl 32 rfl ?_
        refine jj_iload_n hX dX7_twins_32 2 rfl 33 rfl ?_
        refine jj_iload_n hX dX7_twins_33 3 rfl 34 rfl ?_
        refine kmw_doClash hX hK hD q2107 (Nat.le_of_ble_eq_true rfl) (Nat.le_of_ble_eq_true rfl) (Nat.zero_le _) (Nat.zero_le _) (Nat.le_of_ble_eq_true rfl) dX7_twins_34 37 rfl h (fun r34 u34 hb34 h => ?_)
        refine jj_if_eq hX dX7_twins_37 53 40 (by decide) rfl (fun c37 => ?_) (fun c37 => ?_)
        · have h := h.1 c37
          refine jj_sub (lv2 := [(0, .ref (ad 0)), (2, .int x2), (3, .int x3)]) [0, 2, 3] rfl ?_
          exact tmw_twins_B53 hX hK hD hK4 ih h
        · have h := h.2 c37
          refine jj_aload_n hX dX7_twins_40 0 rfl 41 rfl ?_
          refine jj_iload_n hX dX7_twins_41 3 rfl 42 rfl ?_
          refine jj_iload_n hX dX7_twins_42 2 rfl 43 rfl ?_
          refine kmw_doClash hX hK hD q2107 (Nat.le_of_ble_eq_true rfl) (Nat.le_of_ble_eq_true rfl) (Nat.zero_le _) (Nat.zero_le _) (Nat.le_of_ble_eq_true rfl) dX7_twins_43 46 rfl h (fun r43 u43 hb43 h => ?_)
          refine jj_if_eq hX dX7_twins_46 53 49 (by decide) rfl (fun c46 => ?_) (fun c46 => ?_)
          · have h := h.1 c46
            refine jj_sub (lv2 := [(0, .ref (ad 0)), (2, .int x2), (3, .int x3)]) [0, 2, 3] rfl ?_
            exact tmw_twins_B53 hX hK hD hK4 ih h
          · have h := h.2 c46
            refine jj_iconst hX dX7_twins_49 ci_1 50 rfl ?_
            refine jj_goto hX dX7_twins_50 54 (by decide) ?_
            refine jj_iadd hX dX7_twins_54 55 rfl ?_
            refine jj_topi (fun v55 e55 => ?_)
            have h := h v55 e55
            refine jj_istore_n (lv2 := [(0, .ref (ad 0)), (1, .int v55), (2, .int x2), (3, .int x3)]) hX dX7_twins_55 (Nat.le_of_ble_eq_true rfl) [1, 0, 2, 3] rfl 56 rfl ?_
            obtain ⟨v56, e56⟩ : ∃ y : Int32, y = x3 + (1 : Int32) := ⟨_, rfl⟩
            have h := h v56 e56
            refine jj_iinc (v := v56) (lv2 := [(0, .ref (ad 0)), (1, .int v55), (2, .int x2), (3, .int v56)]) hX dX7_twins_56 3 rfl (by rw [e56, ci_1]) (Nat.le_of_ble_eq_true rfl) [1, 2, 3, 0] rfl 59 rfl ?_
            refine jj_goto hX dX7_twins_59 16 (by decide) ?_
            exact ih _ _ _ h
set_option maxHeartbeats 4000000 in
set_option maxRecDepth 100000 in
theorem tmw_twins_L4 {X : JC} {D : va_G} {dA ad : Nat → Nat} {Post : Int32 → MS → Prop} (hX : JX X yX7_twins.cls cX7_twins 4 (Option.some Jvm.ClassFile.FieldType.int) 3 66 0 0) (hK : KM D dA (jj_s X)) (hD : MD ad) : ∀ (n : Nat) (x1 : Int32) (x2 : Int32) (u : MS), mw_twins_L4 Post n x1 x2 u → JJ X (AM ad) (jj_Q X (va_Qi Post (jm_B D dA ad) (AM ad)) 0 0 (AM ad)) 4 (MW D dA ad u) 0 0 4 [(0, .ref (ad 0)), (1, .int x1), (2, .int x2)] [] := by
  intro n
  induction n with
  | zero =>
    intro x1 x2 u h
    exact h.elim
  | succ n ih =>
    intro x1 x2 u h
    have h : mw_twins_L4_S Post (mw_twins_L4 Post n) x1 x2 u := h
    unfold mw_twins_L4_S at h
    refine jj_iload_n hX dX7_twins_4 2 rfl 5 rfl ?_
    refine jt_0 hX hK dX7_twins_5 0 rfl dX7_twins_6 q1484 9 rfl rfl ?_
    refine jj_iconst hX dX7_twins_9 ci_0 10 rfl ?_
    refine jr_1 hX hK 0 kc_0 vi_1_0 dX7_twins_10 11 rfl ?_
    refine jj_icmp_ge hX dX7_twins_11 68 14 (by decide) rfl (fun c11 => ?_) (fun c11 => ?_)
    · have h := h.1 c11
      refine jj_aload_n hX dX7_twins_68 0 rfl 69 rfl ?_
      refine jj_iload_n hX dX7_twins_69 1 rfl 70 rfl ?_
      refine kmw_gives hX hK hD q1752 (Nat.le_of_ble_eq_true rfl) (Nat.le_of_ble_eq_true rfl) (Nat.zero_le _) (Nat.zero_le _) (Nat.le_of_ble_eq_true rfl) dX7_twins_70 73 rfl h (fun r70 u70 h => ?_)
      exact jj_reti (post := Post) (u := u70) hX dX7_twins_73 (Nat.le_refl 0) (Nat.le_refl 0) jm_hB h
    · have h := h.2 c11
      refine jj_iconst hX dX7_twins_14 ci_0 15 rfl ?_
      refine jj_istore_n (lv2 := [(0, .ref (ad 0)), (1, .int x1), (2, .int x2), (3, .int (0 : Int32))]) hX dX7_twins_15 (Nat.le_of_ble_eq_true rfl) [1, 2, 3, 0] rfl 16 rfl ?_
      obtain ⟨n9, h⟩ := h
      exact tmw_twins_L16 hX hK hD ih n9 _ _ _ h
set_option maxHeartbeats 4000000 in
set_option maxRecDepth 100000 in
theorem mmw_twins (l : Launch) (D : va_G) (dA ad : Nat → Nat) (hD : MD ad) (u : MS) (Post : Int32 → MS → Prop) (h : mw_twins  u Post) : Met l yX7_twins (ws_ yX7_twins cX7_twins 4 (Option.some Jvm.ClassFile.FieldType.int)) (jm_rm 3 66) (jm_Pc D dA ad u []) (va_Qi Post (jm_B D dA ad) (AM ad)) 0 0 (AM ad) := by
  refine jm_start [] [(0, .ref (ad 0))] (by decide) (Nat.le_of_ble_eq_true rfl) rfl (fun X hX hK => ?_)
  unfold mw_twins at h
  refine jj_iconst hX dX7_twins_0 ci_0 1 rfl ?_
  refine jj_istore_n (lv2 := [(0, .ref (ad 0)), (1, .int (0 : Int32))]) hX dX7_twins_1 (Nat.le_of_ble_eq_true rfl) [1, 0] rfl 2 rfl ?_
  refine jj_iconst hX dX7_twins_2 ci_0 3 rfl ?_
  refine jj_istore_n (lv2 := [(0, .ref (ad 0)), (1, .int (0 : Int32)), (2, .int (0 : Int32))]) hX dX7_twins_3 (Nat.le_of_ble_eq_true rfl) [1, 2, 0] rfl 4 rfl ?_
  obtain ⟨n9, h⟩ := h
  exact tmw_twins_L4 hX hK hD n9 _ _ _ h
theorem hd_mw_twins : yX7_twins.cls = RX7 ∧ yX7_twins.cls ≠ "java/lang/invoke/MethodHandle" ∧ yX7_twins.cls ≠ "java/lang/invoke/VarHandle" ∧ (parseMethodDescriptor yX7_twins.desc).map (fun d => d.parameters.length) = some 0 := by decide +kernel
theorem kmw_twins {X : JC} {Q : State → Prop} {nL k n pc : Nat} {lv : List (Nat × Value)} {st : List Value} {own : String} {cc : ByteArray} {ret : Option FieldType} {F LL mc ms ix : Nat} {D : va_G} {dA ad : Nat → Nat} {u : MS} {Post : Int32 → MS → Prop} (hX : JX X own cc nL ret F LL mc ms) (hK : KM D dA (jj_s X)) (hD : MD ad) (hlk : (Cond.methodLink own ix yX7_twins) ∈ lw_all) (hF : 3 + 1 ≤ F) (hL : 8 + (4 + 11) + 66 ≤ LL) (hk : k ≤ mc) (hk2 : n ≤ ms) (hw : (st.map fun v => v.category).sum ≤ 8) (d : decode cc pc = .ok (.invokevirtual ix, 3)) (q : Nat) (hq : pc + 3 = q) (h : mw_twins  u Post) (kk : ∀ (r : Int32) (u2 : MS), Post r u2 → JJ X (AM ad) Q nL (MW D dA ad u2) k n q lv (.int r :: st)) : JJ X (AM ad) Q nL (MW D dA ad u) k n pc lv (.ref (ad 0) :: st) :=
  jm_calli (na := 0) (As := []) hX hK (mmw_twins (jj_l X) D dA ad hD  u Post h) hlk q2100 q2101 q129 q2102 hd_mw_twins rfl rfl hw hF hL hk hk2 d q hq kk
def mw_near_L47_S (Post : Int32 → MS → Prop) (x1 : Int32) (x2 : Int32) (R : Int32 → Int32 → MS → Prop) (x3 : Int32) (x4 : Int32) (u : MS) : Prop :=
  mw_cellsOf x1 u (fun r51 u51 =>
    (r51 ≤ x4 →
      mw_gives x3 u51 (fun r86 u86 =>
        Post r86 u86)) ∧
    (¬ r51 ≤ x4 →
      mw_cellAt x1 x4 u51 (fun r62 u62 =>
        mw_cellAt x2 x4 u62 (fun r69 u69 =>
          mw_bits (r62 ^^^ r69) (fun r73 =>
            ∀ v77 : Int32, v77 = (x3 + r73) →
            ∀ v78 : Int32, v78 = x4 + (1 : Int32) →
            R v77 v78 u69)))))
def mw_near_L47 (Post : Int32 → MS → Prop) (x1 : Int32) (x2 : Int32) : Nat → Int32 → Int32 → MS → Prop
  | 0 => fun _ _ _ => False
  | n + 1 => fun x3 x4 u => mw_near_L47_S Post x1 x2 (mw_near_L47 Post x1 x2 n) x3 x4 u
/-- RaisedPressModel.near(II)I -/
def mw_near (x1 : Int32) (x2 : Int32) (u : MS) (Post : Int32 → MS → Prop) : Prop :=
  mw_isRule x1 u (fun r2 u2 =>
    (r2 = 0 →
      mw_refuse (1 : Int32) u2 (fun r18 u18 =>
        Post r18 u18)) ∧
    (¬ r2 = 0 →
      mw_isRule x2 u2 (fun r10 u10 =>
        (¬ r10 = 0 →
          mw_cellsOf x1 u10 (fun r24 u24 =>
            mw_cellsOf x2 u24 (fun r29 u29 =>
              (r24 = r29 →
                ∃ n, mw_near_L47 Post x1 x2 n (0 : Int32) (0 : Int32) u29) ∧
              (¬ r24 = r29 →
                mw_refuse (7 : Int32) u29 (fun r38 u38 =>
                  Post r38 u38))))) ∧
        (r10 = 0 →
          mw_refuse (1 : Int32) u10 (fun r18 u18 =>
            Post r18 u18)))))
set_option maxHeartbeats 4000000 in
set_option maxRecDepth 100000 in
theorem tmw_near_L47 {X : JC} {D : va_G} {dA ad : Nat → Nat} {Post : Int32 → MS → Prop} {x1 : Int32} {x2 : Int32} (hX : JX X yX7_near.cls cX7_near 5 (Option.some Jvm.ClassFile.FieldType.int) 2 43 0 0) (hK : KM D dA (jj_s X)) (hD : MD ad) : ∀ (n : Nat) (x3 : Int32) (x4 : Int32) (u : MS), mw_near_L47 Post x1 x2 n x3 x4 u → JJ X (AM ad) (jj_Q X (va_Qi Post (jm_B D dA ad) (AM ad)) 0 0 (AM ad)) 5 (MW D dA ad u) 0 0 47 [(0, .ref (ad 0)), (1, .int x1), (2, .int x2), (3, .int x3), (4, .int x4)] [] := by
  intro n
  induction n with
  | zero =>
    intro x3 x4 u h
    exact h.elim
  | succ n ih =>
    intro x3 x4 u h
    have h : mw_near_L47_S Post x1 x2 (mw_near_L47 Post x1 x2 n) x3 x4 u := h
    unfold mw_near_L47_S at h
    refine jj_iload hX dX7_near_47 4 rfl 49 rfl ?_
    refine jj_aload_n hX dX7_near_49 0 rfl 50 rfl ?_
    refine jj_iload_n hX dX7_near_50 1 rfl 51 rfl ?_
    refine kmw_cellsOf hX hK hD q1848 (Nat.le_of_ble_eq_true rfl) (Nat.le_of_ble_eq_true rfl) (Nat.zero_le _) (Nat.zero_le _) (Nat.le_of_ble_eq_true rfl) dX7_near_51 54 rfl h (fun r51 u51 h => ?_)
    refine jj_icmp_ge hX dX7_near_54 84 57 (by decide) rfl (fun c54 => ?_) (fun c54 => ?_)
    · have h := h.1 c54
      refine jj_aload_n hX dX7_near_84 0 rfl 85 rfl ?_
      refine jj_iload_n hX dX7_near_85 3 rfl 86 rfl ?_
      refine kmw_gives hX hK hD q1752 (Nat.le_of_ble_eq_true rfl) (Nat.le_of_ble_eq_true rfl) (Nat.zero_le _) (Nat.zero_le _) (Nat.le_of_ble_eq_true rfl) dX7_near_86 89 rfl h (fun r86 u86 h => ?_)
      exact jj_reti (post := Post) (u := u86) hX dX7_near_89 (Nat.le_refl 0) (Nat.le_refl 0) jm_hB h
    · have h := h.2 c54
      refine jj_iload_n hX dX7_near_57 3 rfl 58 rfl ?_
      refine jj_aload_n hX dX7_near_58 0 rfl 59 rfl ?_
      refine jj_iload_n hX dX7_near_59 1 rfl 60 rfl ?_
      refine jj_iload hX dX7_near_60 4 rfl 62 rfl ?_
      refine kmw_cellAt hX hK hD q1852 (Nat.le_of_ble_eq_true rfl) (Nat.le_of_ble_eq_true rfl) (Nat.zero_le _) (Nat.zero_le _) (Nat.le_of_ble_eq_true rfl) dX7_near_62 65 rfl h (fun r62 u62 h => ?_)
      refine jj_aload_n hX dX7_near_65 0 rfl 66 rfl ?_
      refine jj_iload_n hX dX7_near_66 2 rfl 67 rfl ?_
      refine jj_iload hX dX7_near_67 4 rfl 69 rfl ?_
      refine kmw_cellAt hX hK hD q1852 (Nat.le_of_ble_eq_true rfl) (Nat.le_of_ble_eq_true rfl) (Nat.zero_le _) (Nat.zero_le _) (Nat.le_of_ble_eq_true rfl) dX7_near_69 72 rfl h (fun r69 u69 h => ?_)
      refine jj_ixor hX dX7_near_72 73 rfl ?_
      refine kmw_bits hX MW.keeps q1928 (Nat.le_of_ble_eq_true rfl) (Nat.le_of_ble_eq_true rfl) (Nat.zero_le _) (Nat.zero_le _) (Nat.le_of_ble_eq_true rfl) dX7_near_73 76 rfl h (fun r73 h => ?_)
      refine jj_iadd hX dX7_near_76 77 rfl ?_
      refine jj_topi (fun v77 e77 => ?_)
      have h := h v77 e77
      refine jj_istore_n (lv2 := [(0, .ref (ad 0)), (1, .int x1), (2, .int x2), (3, .int v77), (4, .int x4)]) hX dX7_near_77 (Nat.le_of_ble_eq_true rfl) [1, 2, 3, 0, 4] rfl 78 rfl ?_
      obtain ⟨v78, e78⟩ : ∃ y : Int32, y = x4 + (1 : Int32) := ⟨_, rfl⟩
      have h := h v78 e78
      refine jj_iinc (v := v78) (lv2 := [(0, .ref (ad 0)), (1, .int x1), (2, .int x2), (3, .int v77), (4, .int v78)]) hX dX7_near_78 4 rfl (by rw [e78, ci_1]) (Nat.le_of_ble_eq_true rfl) [1, 2, 3, 4, 0] rfl 81 rfl ?_
      refine jj_goto hX dX7_near_81 47 (by decide) ?_
      exact ih _ _ _ h
set_option maxHeartbeats 4000000 in
set_option maxRecDepth 100000 in
theorem mmw_near (l : Launch) (D : va_G) (dA ad : Nat → Nat) (hD : MD ad) (x1 : Int32) (x2 : Int32) (u : MS) (Post : Int32 → MS → Prop) (h : mw_near x1 x2 u Post) : Met l yX7_near (ws_ yX7_near cX7_near 5 (Option.some Jvm.ClassFile.FieldType.int)) (jm_rm 2 43) (jm_Pc D dA ad u [.int x1, .int x2]) (va_Qi Post (jm_B D dA ad) (AM ad)) 0 0 (AM ad) := by
  refine jm_start [.int x1, .int x2] [(0, .ref (ad 0)), (1, .int x1), (2, .int x2)] (by decide) (Nat.le_of_ble_eq_true rfl) rfl (fun X hX hK => ?_)
  unfold mw_near at h
  refine jj_aload_n hX dX7_near_0 0 rfl 1 rfl ?_
  refine jj_iload_n hX dX7_near_1 1 rfl 2 rfl ?_
  refine kmw_isRule hX hK hD q1836 (Nat.le_of_ble_eq_true rfl) (Nat.le_of_ble_eq_true rfl) (Nat.zero_le _) (Nat.zero_le _) (Nat.le_of_ble_eq_true rfl) dX7_near_2 5 rfl h (fun r2 u2 hb2 h => ?_)
  refine jj_if_eq hX dX7_near_5 16 8 (by decide) rfl (fun c5 => ?_) (fun c5 => ?_)
  · have h := h.1 c5
    refine jj_aload_n hX dX7_near_16 0 rfl 17 rfl ?_
    refine jj_iconst hX dX7_near_17 ci_1 18 rfl ?_
    refine kmw_refuse hX hK hD q1702 (Nat.le_of_ble_eq_true rfl) (Nat.le_of_ble_eq_true rfl) (Nat.zero_le _) (Nat.zero_le _) (Nat.le_of_ble_eq_true rfl) dX7_near_18 21 rfl h (fun r18 u18 h => ?_)
    exact jj_reti (post := Post) (u := u18) hX dX7_near_21 (Nat.le_refl 0) (Nat.le_refl 0) jm_hB h
  · have h := h.2 c5
    refine jj_aload_n hX dX7_near_8 0 rfl 9 rfl ?_
    refine jj_iload_n hX dX7_near_9 2 rfl 10 rfl ?_
    refine kmw_isRule hX hK hD q1836 (Nat.le_of_ble_eq_true rfl) (Nat.le_of_ble_eq_true rfl) (Nat.zero_le _) (Nat.zero_le _) (Nat.le_of_ble_eq_true rfl) dX7_near_10 13 rfl h (fun r10 u10 hb10 h => ?_)
    refine jj_if_ne hX dX7_near_13 22 16 (by decide) rfl (fun c13 => ?_) (fun c13 => ?_)
    · have h := h.1 c13
      refine jj_aload_n hX dX7_near_22 0 rfl 23 rfl ?_
      refine jj_iload_n hX dX7_near_23 1 rfl 24 rfl ?_
      refine kmw_cellsOf hX hK hD q1848 (Nat.le_of_ble_eq_true rfl) (Nat.le_of_ble_eq_true rfl) (Nat.zero_le _) (Nat.zero_le _) (Nat.le_of_ble_eq_true rfl) dX7_near_24 27 rfl h (fun r24 u24 h => ?_)
      refine jj_aload_n hX dX7_near_27 0 rfl 28 rfl ?_
      refine jj_iload_n hX dX7_near_28 2 rfl 29 rfl ?_
      refine kmw_cellsOf hX hK hD q1848 (Nat.le_of_ble_eq_true rfl) (Nat.le_of_ble_eq_true rfl) (Nat.zero_le _) (Nat.zero_le _) (Nat.le_of_ble_eq_true rfl) dX7_near_29 32 rfl h (fun r29 u29 h => ?_)
      refine jj_icmp_eq hX dX7_near_32 42 35 (by decide) rfl (fun c32 => ?_) (fun c32 => ?_)
      · have h := h.1 c32
        refine jj_iconst hX dX7_near_42 ci_0 43 rfl ?_
        refine jj_istore_n (lv2 := [(0, .ref (ad 0)), (1, .int x1), (2, .int x2), (3, .int (0 : Int32))]) hX dX7_near_43 (Nat.le_of_ble_eq_true rfl) [1, 2, 3, 0] rfl 44 rfl ?_
        refine jj_iconst hX dX7_near_44 ci_0 45 rfl ?_
        refine jj_istore (lv2 := [(0, .ref (ad 0)), (1, .int x1), (2, .int x2), (3, .int (0 : Int32)), (4, .int (0 : Int32))]) hX dX7_near_45 (Nat.le_of_ble_eq_true rfl) [1, 2, 3, 4, 0] rfl 47 rfl ?_
        obtain ⟨n9, h⟩ := h
        exact tmw_near_L47 hX hK hD n9 _ _ _ h
      · have h := h.2 c32
        refine jj_aload_n hX dX7_near_35 0 rfl 36 rfl ?_
        refine jj_bipush hX dX7_near_36 cb_7 38 rfl ?_
        refine kmw_refuse hX hK hD q1702 (Nat.le_of_ble_eq_true rfl) (Nat.le_of_ble_eq_true rfl) (Nat.zero_le _) (Nat.zero_le _) (Nat.le_of_ble_eq_true rfl) dX7_near_38 41 rfl h (fun r38 u38 h => ?_)
        exact jj_reti (post := Post) (u := u38) hX dX7_near_41 (Nat.le_refl 0) (Nat.le_refl 0) jm_hB h
    · have h := h.2 c13
      refine jj_aload_n hX dX7_near_16 0 rfl 17 rfl ?_
      refine jj_iconst hX dX7_near_17 ci_1 18 rfl ?_
      refine kmw_refuse hX hK hD q1702 (Nat.le_of_ble_eq_true rfl) (Nat.le_of_ble_eq_true rfl) (Nat.zero_le _) (Nat.zero_le _) (Nat.le_of_ble_eq_true rfl) dX7_near_18 21 rfl h (fun r18 u18 h => ?_)
      exact jj_reti (post := Post) (u := u18) hX dX7_near_21 (Nat.le_refl 0) (Nat.le_refl 0) jm_hB h
theorem hd_mw_near : yX7_near.cls = RX7 ∧ yX7_near.cls ≠ "java/lang/invoke/MethodHandle" ∧ yX7_near.cls ≠ "java/lang/invoke/VarHandle" ∧ (parseMethodDescriptor yX7_near.desc).map (fun d => d.parameters.length) = some 2 := by decide +kernel
theorem kmw_near {X : JC} {Q : State → Prop} {nL k n pc : Nat} {lv : List (Nat × Value)} {st : List Value} {own : String} {cc : ByteArray} {ret : Option FieldType} {F LL mc ms ix : Nat} {D : va_G} {dA ad : Nat → Nat} {x1 : Int32} {x2 : Int32} {u : MS} {Post : Int32 → MS → Prop} (hX : JX X own cc nL ret F LL mc ms) (hK : KM D dA (jj_s X)) (hD : MD ad) (hlk : (Cond.methodLink own ix yX7_near) ∈ lw_all) (hF : 2 + 1 ≤ F) (hL : 8 + (5 + 11) + 43 ≤ LL) (hk : k ≤ mc) (hk2 : n ≤ ms) (hw : (st.map fun v => v.category).sum ≤ 8) (d : decode cc pc = .ok (.invokevirtual ix, 3)) (q : Nat) (hq : pc + 3 = q) (h : mw_near x1 x2 u Post) (kk : ∀ (r : Int32) (u2 : MS), Post r u2 → JJ X (AM ad) Q nL (MW D dA ad u2) k n q lv (.int r :: st)) : JJ X (AM ad) Q nL (MW D dA ad u) k n pc lv (.int x2 :: .int x1 :: .ref (ad 0) :: st) :=
  jm_calli (na := 2) (As := [.int x1, .int x2]) hX hK (mmw_near (jj_l X) D dA ad hD x1 x2 u Post h) hlk q2112 q2113 q129 q2114 hd_mw_near rfl rfl hw hF hL hk hk2 d q hq kk
/-- RaisedPressModel.clash(II)I -/
def mw_clash (x1 : Int32) (x2 : Int32) (u : MS) (Post : Int32 → MS → Prop) : Prop :=
  mw_isRule x1 u (fun r2 u2 =>
    (r2 = 0 →
      mw_refuse (1 : Int32) u2 (fun r39 u39 =>
        Post r39 u39)) ∧
    (¬ r2 = 0 →
      mw_isRule x2 u2 (fun r10 u10 =>
        (r10 = 0 →
          mw_refuse (1 : Int32) u10 (fun r39 u39 =>
            Post r39 u39)) ∧
        (¬ r10 = 0 →
          mw_doClash x1 x2 u10 (fun r20 u20 =>
            (r20 = 0 →
              mw_gives (0 : Int32) u20 (fun r31 u31 =>
                Post r31 u31)) ∧
            (¬ r20 = 0 →
              mw_gives (1 : Int32) u20 (fun r31 u31 =>
                Post r31 u31)))))))
set_option maxHeartbeats 4000000 in
set_option maxRecDepth 100000 in
theorem mmw_clash (l : Launch) (D : va_G) (dA ad : Nat → Nat) (hD : MD ad) (x1 : Int32) (x2 : Int32) (u : MS) (Post : Int32 → MS → Prop) (h : mw_clash x1 x2 u Post) : Met l yX7_clash (ws_ yX7_clash cX7_clash 3 (Option.some Jvm.ClassFile.FieldType.int)) (jm_rm 3 66) (jm_Pc D dA ad u [.int x1, .int x2]) (va_Qi Post (jm_B D dA ad) (AM ad)) 0 0 (AM ad) := by
  refine jm_start [.int x1, .int x2] [(0, .ref (ad 0)), (1, .int x1), (2, .int x2)] (by decide) (Nat.le_of_ble_eq_true rfl) rfl (fun X hX hK => ?_)
  unfold mw_clash at h
  refine jj_aload_n hX dX7_clash_0 0 rfl 1 rfl ?_
  refine jj_iload_n hX dX7_clash_1 1 rfl 2 rfl ?_
  refine kmw_isRule hX hK hD q1836 (Nat.le_of_ble_eq_true rfl) (Nat.le_of_ble_eq_true rfl) (Nat.zero_le _) (Nat.zero_le _) (Nat.le_of_ble_eq_true rfl) dX7_clash_2 5 rfl h (fun r2 u2 hb2 h => ?_)
  refine jj_if_eq hX dX7_clash_5 37 8 (by decide) rfl (fun c5 => ?_) (fun c5 => ?_)
  · have h := h.1 c5
    refine jj_aload_n hX dX7_clash_37 0 rfl 38 rfl ?_
    refine jj_iconst hX dX7_clash_38 ci_1 39 rfl ?_
    refine kmw_refuse hX hK hD q1702 (Nat.le_of_ble_eq_true rfl) (Nat.le_of_ble_eq_true rfl) (Nat.zero_le _) (Nat.zero_le _) (Nat.le_of_ble_eq_true rfl) dX7_clash_39 42 rfl h (fun r39 u39 h => ?_)
    exact jj_reti (post := Post) (u := u39) hX dX7_clash_42 (Nat.le_refl 0) (Nat.le_refl 0) jm_hB h
  · have h := h.2 c5
    refine jj_aload_n hX dX7_clash_8 0 rfl 9 rfl ?_
    refine jj_iload_n hX dX7_clash_9 2 rfl 10 rfl ?_
    refine kmw_isRule hX hK hD q1836 (Nat.le_of_ble_eq_true rfl) (Nat.le_of_ble_eq_true rfl) (Nat.zero_le _) (Nat.zero_le _) (Nat.le_of_ble_eq_true rfl) dX7_clash_10 13 rfl h (fun r10 u10 hb10 h => ?_)
    refine jj_if_eq hX dX7_clash_13 37 16 (by decide) rfl (fun c13 => ?_) (fun c13 => ?_)
    · have h := h.1 c13
      refine jj_aload_n hX dX7_clash_37 0 rfl 38 rfl ?_
      refine jj_iconst hX dX7_clash_38 ci_1 39 rfl ?_
      refine kmw_refuse hX hK hD q1702 (Nat.le_of_ble_eq_true rfl) (Nat.le_of_ble_eq_true rfl) (Nat.zero_le _) (Nat.zero_le _) (Nat.le_of_ble_eq_true rfl) dX7_clash_39 42 rfl h (fun r39 u39 h => ?_)
      exact jj_reti (post := Post) (u := u39) hX dX7_clash_42 (Nat.le_refl 0) (Nat.le_refl 0) jm_hB h
    · have h := h.2 c13
      refine jj_aload_n hX dX7_clash_16 0 rfl 17 rfl ?_
      refine jj_aload_n hX dX7_clash_17 0 rfl 18 rfl ?_
      refine jj_iload_n hX dX7_clash_18 1 rfl 19 rfl ?_
      refine jj_iload_n hX dX7_clash_19 2 rfl 20 rfl ?_
      refine kmw_doClash hX hK hD q2107 (Nat.le_of_ble_eq_true rfl) (Nat.le_of_ble_eq_true rfl) (Nat.zero_le _) (Nat.zero_le _) (Nat.le_of_ble_eq_true rfl) dX7_clash_20 23 rfl h (fun r20 u20 hb20 h => ?_)
      refine jj_if_eq hX dX7_clash_23 30 26 (by decide) rfl (fun c23 => ?_) (fun c23 => ?_)
      · have h := h.1 c23
        refine jj_iconst hX dX7_clash_30 ci_0 31 rfl ?_
        refine kmw_gives hX hK hD q1752 (Nat.le_of_ble_eq_true rfl) (Nat.le_of_ble_eq_true rfl) (Nat.zero_le _) (Nat.zero_le _) (Nat.le_of_ble_eq_true rfl) dX7_clash_31 34 rfl h (fun r31 u31 h => ?_)
        refine jj_goto hX dX7_clash_34 42 (by decide) ?_
        exact jj_reti (post := Post) (u := u31) hX dX7_clash_42 (Nat.le_refl 0) (Nat.le_refl 0) jm_hB h
      · have h := h.2 c23
        refine jj_iconst hX dX7_clash_26 ci_1 27 rfl ?_
        refine jj_goto hX dX7_clash_27 31 (by decide) ?_
        refine kmw_gives hX hK hD q1752 (Nat.le_of_ble_eq_true rfl) (Nat.le_of_ble_eq_true rfl) (Nat.zero_le _) (Nat.zero_le _) (Nat.le_of_ble_eq_true rfl) dX7_clash_31 34 rfl h (fun r31 u31 h => ?_)
        refine jj_goto hX dX7_clash_34 42 (by decide) ?_
        exact jj_reti (post := Post) (u := u31) hX dX7_clash_42 (Nat.le_refl 0) (Nat.le_refl 0) jm_hB h
theorem hd_mw_clash : yX7_clash.cls = RX7 ∧ yX7_clash.cls ≠ "java/lang/invoke/MethodHandle" ∧ yX7_clash.cls ≠ "java/lang/invoke/VarHandle" ∧ (parseMethodDescriptor yX7_clash.desc).map (fun d => d.parameters.length) = some 2 := by decide +kernel
theorem kmw_clash {X : JC} {Q : State → Prop} {nL k n pc : Nat} {lv : List (Nat × Value)} {st : List Value} {own : String} {cc : ByteArray} {ret : Option FieldType} {F LL mc ms ix : Nat} {D : va_G} {dA ad : Nat → Nat} {x1 : Int32} {x2 : Int32} {u : MS} {Post : Int32 → MS → Prop} (hX : JX X own cc nL ret F LL mc ms) (hK : KM D dA (jj_s X)) (hD : MD ad) (hlk : (Cond.methodLink own ix yX7_clash) ∈ lw_all) (hF : 3 + 1 ≤ F) (hL : 8 + (3 + 11) + 66 ≤ LL) (hk : k ≤ mc) (hk2 : n ≤ ms) (hw : (st.map fun v => v.category).sum ≤ 8) (d : decode cc pc = .ok (.invokevirtual ix, 3)) (q : Nat) (hq : pc + 3 = q) (h : mw_clash x1 x2 u Post) (kk : ∀ (r : Int32) (u2 : MS), Post r u2 → JJ X (AM ad) Q nL (MW D dA ad u2) k n q lv (.int r :: st)) : JJ X (AM ad) Q nL (MW D dA ad u) k n pc lv (.int x2 :: .int x1 :: .ref (ad 0) :: st) :=
  jm_calli (na := 2) (As := [.int x1, .int x2]) hX hK (mmw_clash (jj_l X) D dA ad hD x1 x2 u Post h) hlk q2116 q2117 q129 q2118 hd_mw_clash rfl rfl hw hF hL hk hk2 d q hq kk
def mw_clashes_L16_S (K4 : Int32 → Int32 → MS → Prop) (Post : Int32 → MS → Prop) (x2 : Int32) (R : Int32 → Int32 → MS → Prop) (x1 : Int32) (x3 : Int32) (u : MS) : Prop :=
  ((jm_i u 1 0) ≤ x3 →
    ∀ v58 : Int32, v58 = x2 + (1 : Int32) →
    K4 x1 v58 u) ∧
  (¬ (jm_i u 1 0) ≤ x3 →
    mw_areIn x2 x3 u (fun r30 u30 =>
      (r30 = 0 →
        ∀ v51 : Int32, v51 = (x1 + (0 : Int32)) →
        ∀ v52 : Int32, v52 = x3 + (1 : Int32) →
        R v51 v52 u30) ∧
      (¬ r30 = 0 →
        mw_doClash x2 x3 u30 (fun r39 u39 =>
          (r39 = 0 →
            ∀ v51 : Int32, v51 = (x1 + (0 : Int32)) →
            ∀ v52 : Int32, v52 = x3 + (1 : Int32) →
            R v51 v52 u39) ∧
          (¬ r39 = 0 →
            ∀ v51 : Int32, v51 = (x1 + (1 : Int32)) →
            ∀ v52 : Int32, v52 = x3 + (1 : Int32) →
            R v51 v52 u39)))))
def mw_clashes_L16 (K4 : Int32 → Int32 → MS → Prop) (Post : Int32 → MS → Prop) (x2 : Int32) : Nat → Int32 → Int32 → MS → Prop
  | 0 => fun _ _ _ => False
  | n + 1 => fun x1 x3 u => mw_clashes_L16_S K4 Post x2 (mw_clashes_L16 K4 Post x2 n) x1 x3 u
def mw_clashes_L4_S (Post : Int32 → MS → Prop) (R : Int32 → Int32 → MS → Prop) (x1 : Int32) (x2 : Int32) (u : MS) : Prop :=
  ((jm_i u 1 0) ≤ x2 →
    mw_gives x1 u (fun r66 u66 =>
      Post r66 u66)) ∧
  (¬ (jm_i u 1 0) ≤ x2 →
    ∃ n, mw_clashes_L16 R Post x2 n x1 (0 : Int32) u)
def mw_clashes_L4 (Post : Int32 → MS → Prop) : Nat → Int32 → Int32 → MS → Prop
  | 0 => fun _ _ _ => False
  | n + 1 => fun x1 x2 u => mw_clashes_L4_S Post (mw_clashes_L4 Post n) x1 x2 u
/-- RaisedPressModel.clashes()I -/
def mw_clashes (u : MS) (Post : Int32 → MS → Prop) : Prop :=
  ∃ n, mw_clashes_L4 Post n (0 : Int32) (0 : Int32) u
set_option maxHeartbeats 4000000 in
set_option maxRecDepth 100000 in
theorem tmw_clashes_L16 {X : JC} {D : va_G} {dA ad : Nat → Nat} {K4 : Int32 → Int32 → MS → Prop} {Post : Int32 → MS → Prop} {x2 : Int32} (hX : JX X yX7_clashes.cls cX7_clashes 4 (Option.some Jvm.ClassFile.FieldType.int) 3 66 0 0) (hK : KM D dA (jj_s X)) (hD : MD ad) (hK4 : ∀ (y1 : Int32) (y2 : Int32) (u : MS), K4 y1 y2 u → JJ X (AM ad) (jj_Q X (va_Qi Post (jm_B D dA ad) (AM ad)) 0 0 (AM ad)) 4 (MW D dA ad u) 0 0 4 [(0, .ref (ad 0)), (1, .int y1), (2, .int y2)] []) : ∀ (n : Nat) (x1 : Int32) (x3 : Int32) (u : MS), mw_clashes_L16 K4 Post x2 n x1 x3 u → JJ X (AM ad) (jj_Q X (va_Qi Post (jm_B D dA ad) (AM ad)) 0 0 (AM ad)) 4 (MW D dA ad u) 0 0 16 [(0, .ref (ad 0)), (1, .int x1), (2, .int x2), (3, .int x3)] [] := by
  intro n
  induction n with
  | zero =>
    intro x1 x3 u h
    exact h.elim
  | succ n ih =>
    intro x1 x3 u h
    have h : mw_clashes_L16_S K4 Post x2 (mw_clashes_L16 K4 Post x2 n) x1 x3 u := h
    unfold mw_clashes_L16_S at h
    refine jj_iload_n hX dX7_clashes_16 3 rfl 17 rfl ?_
    refine jt_0 hX hK dX7_clashes_17 0 rfl dX7_clashes_18 q1484 21 rfl rfl ?_
    refine jj_iconst hX dX7_clashes_21 ci_0 22 rfl ?_
    refine jr_1 hX hK 0 kc_0 vi_1_0 dX7_clashes_22 23 rfl ?_
    refine jj_icmp_ge hX dX7_clashes_23 58 26 (by decide) rfl (fun c23 => ?_) (fun c23 => ?_)
    · have h := h.1 c23
      obtain ⟨v58, e58⟩ : ∃ y : Int32, y = x2 + (1 : Int32) := ⟨_, rfl⟩
      have h := h v58 e58
      refine jj_iinc (v := v58) (lv2 := [(0, .ref (ad 0)), (1, .int x1), (2, .int v58), (3, .int x3)]) hX dX7_clashes_58 2 rfl (by rw [e58, ci_1]) (Nat.le_of_ble_eq_true rfl) [1, 2, 0, 3] rfl 61 rfl ?_
      refine jj_goto hX dX7_clashes_61 4 (by decide) ?_
      refine jj_sub (lv2 := [(0, .ref (ad 0)), (1, .int x1), (2, .int v58)]) [0, 1, 2] rfl ?_
      exact hK4 _ _ _ h
    · have h := h.2 c23
      refine jj_iload_n hX dX7_clashes_26 1 rfl 27 rfl ?_
      refine jj_aload_n hX dX7_clashes_27 0 rfl 28 rfl ?_
      refine jj_iload_n hX dX7_clashes_28 2 rfl 29 rfl ?_
      refine jj_iload_n hX dX7_clashes_29 3 rfl 30 rfl ?_
      refine kmw_areIn hX hK hD q2103 (Nat.le_of_ble_eq_true rfl) (Nat.le_of_ble_eq_true rfl) (Nat.zero_le _) (Nat.zero_le _) (Nat.le_of_ble_eq_true rfl) dX7_clashes_30 33 rfl h (fun r30 u30 hb30 h => ?_)
      refine jj_if_eq hX dX7_clashes_33 49 36 (by decide) rfl (fun c33 => ?_) (fun c33 => ?_)
      · have h := h.1 c33
        refine jj_iconst hX dX7_clashes_49 ci_0 50 rfl ?_
        refine jj_iadd hX dX7_clashes_50 51 rfl ?_
        refine jj_topi (fun v51 e51 => ?_)
        have h := h v51 e51
        refine jj_istore_n (lv2 := [(0, .ref (ad 0)), (1, .int v51), (2, .int x2), (3, .int x3)]) hX dX7_clashes_51 (Nat.le_of_ble_eq_true rfl) [1, 0, 2, 3] rfl 52 rfl ?_
        obtain ⟨v52, e52⟩ : ∃ y : Int32, y = x3 + (1 : Int32) := ⟨_, rfl⟩
        have h := h v52 e52
        refine jj_iinc (v := v52) (lv2 := [(0, .ref (ad 0)), (1, .int v51), (2, .int x2), (3, .int v52)]) hX dX7_clashes_52 3 rfl (by rw [e52, ci_1]) (Nat.le_of_ble_eq_true rfl) [1, 2, 3, 0] rfl 55 rfl ?_
        refine jj_goto hX dX7_clashes_55 16 (by decide) ?_
        exact ih _ _ _ h
      · have h := h.2 c33
        refine jj_aload_n hX dX7_clashes_36 0 rfl 37 rfl ?_
        refine jj_iload_n hX dX7_clashes_37 2 rfl 38 rfl ?_
        refine jj_iload_n hX dX7_clashes_38 3 rfl 39 rfl ?_
        refine kmw_doClash hX hK hD q2107 (Nat.le_of_ble_eq_true rfl) (Nat.le_of_ble_eq_true rfl) (Nat.zero_le _) (Nat.zero_le _) (Nat.le_of_ble_eq_true rfl) dX7_clashes_39 42 rfl h (fun r39 u39 hb39 h => ?_)
        refine jj_if_eq hX dX7_clashes_42 49 45 (by decide) rfl (fun c42 => ?_) (fun c42 => ?_)
        · have h := h.1 c42
          refine jj_iconst hX dX7_clashes_49 ci_0 50 rfl ?_
          refine jj_iadd hX dX7_clashes_50 51 rfl ?_
          refine jj_topi (fun v51 e51 => ?_)
          have h := h v51 e51
          refine jj_istore_n (lv2 := [(0, .ref (ad 0)), (1, .int v51), (2, .int x2), (3, .int x3)]) hX dX7_clashes_51 (Nat.le_of_ble_eq_true rfl) [1, 0, 2, 3] rfl 52 rfl ?_
          obtain ⟨v52, e52⟩ : ∃ y : Int32, y = x3 + (1 : Int32) := ⟨_, rfl⟩
          have h := h v52 e52
          refine jj_iinc (v := v52) (lv2 := [(0, .ref (ad 0)), (1, .int v51), (2, .int x2), (3, .int v52)]) hX dX7_clashes_52 3 rfl (by rw [e52, ci_1]) (Nat.le_of_ble_eq_true rfl) [1, 2, 3, 0] rfl 55 rfl ?_
          refine jj_goto hX dX7_clashes_55 16 (by decide) ?_
          exact ih _ _ _ h
        · have h := h.2 c42
          refine jj_iconst hX dX7_clashes_45 ci_1 46 rfl ?_
          refine jj_goto hX dX7_clashes_46 50 (by decide) ?_
          refine jj_iadd hX dX7_clashes_50 51 rfl ?_
          refine jj_topi (fun v51 e51 => ?_)
          have h := h v51 e51
          refine jj_istore_n (lv2 := [(0, .ref (ad 0)), (1, .int v51), (2, .int x2), (3, .int x3)]) hX dX7_clashes_51 (Nat.le_of_ble_eq_true rfl) [1, 0, 2, 3] rfl 52 rfl ?_
          obtain ⟨v52, e52⟩ : ∃ y : Int32, y = x3 + (1 : Int32) := ⟨_, rfl⟩
          have h := h v52 e52
          refine jj_iinc (v := v52) (lv2 := [(0, .ref (ad 0)), (1, .int v51), (2, .int x2), (3, .int v52)]) hX dX7_clashes_52 3 rfl (by rw [e52, ci_1]) (Nat.le_of_ble_eq_true rfl) [1, 2, 3, 0] rfl 55 rfl ?_
          refine jj_goto hX dX7_clashes_55 16 (by decide) ?_
          exact ih _ _ _ h
set_option maxHeartbeats 4000000 in
set_option maxRecDepth 100000 in
theorem tmw_clashes_L4 {X : JC} {D : va_G} {dA ad : Nat → Nat} {Post : Int32 → MS → Prop} (hX : JX X yX7_clashes.cls cX7_clashes 4 (Option.some Jvm.ClassFile.FieldType.int) 3 66 0 0) (hK : KM D dA (jj_s X)) (hD : MD ad) : ∀ (n : Nat) (x1 : Int32) (x2 : Int32) (u : MS), mw_clashes_L4 Post n x1 x2 u → JJ X (AM ad) (jj_Q X (va_Qi Post (jm_B D dA ad) (AM ad)) 0 0 (AM ad)) 4 (MW D dA ad u) 0 0 4 [(0, .ref (ad 0)), (1, .int x1), (2, .int x2)] [] := by
  intro n
  induction n with
  | zero =>
    intro x1 x2 u h
    exact h.elim
  | succ n ih =>
    intro x1 x2 u h
    have h : mw_clashes_L4_S Post (mw_clashes_L4 Post n) x1 x2 u := h
    unfold mw_clashes_L4_S at h
    refine jj_iload_n hX dX7_clashes_4 2 rfl 5 rfl ?_
    refine jt_0 hX hK dX7_clashes_5 0 rfl dX7_clashes_6 q1484 9 rfl rfl ?_
    refine jj_iconst hX dX7_clashes_9 ci_0 10 rfl ?_
    refine jr_1 hX hK 0 kc_0 vi_1_0 dX7_clashes_10 11 rfl ?_
    refine jj_icmp_ge hX dX7_clashes_11 64 14 (by decide) rfl (fun c11 => ?_) (fun c11 => ?_)
    · have h := h.1 c11
      refine jj_aload_n hX dX7_clashes_64 0 rfl 65 rfl ?_
      refine jj_iload_n hX dX7_clashes_65 1 rfl 66 rfl ?_
      refine kmw_gives hX hK hD q1752 (Nat.le_of_ble_eq_true rfl) (Nat.le_of_ble_eq_true rfl) (Nat.zero_le _) (Nat.zero_le _) (Nat.le_of_ble_eq_true rfl) dX7_clashes_66 69 rfl h (fun r66 u66 h => ?_)
      exact jj_reti (post := Post) (u := u66) hX dX7_clashes_69 (Nat.le_refl 0) (Nat.le_refl 0) jm_hB h
    · have h := h.2 c11
      refine jj_iconst hX dX7_clashes_14 ci_0 15 rfl ?_
      refine jj_istore_n (lv2 := [(0, .ref (ad 0)), (1, .int x1), (2, .int x2), (3, .int (0 : Int32))]) hX dX7_clashes_15 (Nat.le_of_ble_eq_true rfl) [1, 2, 3, 0] rfl 16 rfl ?_
      obtain ⟨n9, h⟩ := h
      exact tmw_clashes_L16 hX hK hD ih n9 _ _ _ h
set_option maxHeartbeats 4000000 in
set_option maxRecDepth 100000 in
theorem mmw_clashes (l : Launch) (D : va_G) (dA ad : Nat → Nat) (hD : MD ad) (u : MS) (Post : Int32 → MS → Prop) (h : mw_clashes  u Post) : Met l yX7_clashes (ws_ yX7_clashes cX7_clashes 4 (Option.some Jvm.ClassFile.FieldType.int)) (jm_rm 3 66) (jm_Pc D dA ad u []) (va_Qi Post (jm_B D dA ad) (AM ad)) 0 0 (AM ad) := by
  refine jm_start [] [(0, .ref (ad 0))] (by decide) (Nat.le_of_ble_eq_true rfl) rfl (fun X hX hK => ?_)
  unfold mw_clashes at h
  refine jj_iconst hX dX7_clashes_0 ci_0 1 rfl ?_
  refine jj_istore_n (lv2 := [(0, .ref (ad 0)), (1, .int (0 : Int32))]) hX dX7_clashes_1 (Nat.le_of_ble_eq_true rfl) [1, 0] rfl 2 rfl ?_
  refine jj_iconst hX dX7_clashes_2 ci_0 3 rfl ?_
  refine jj_istore_n (lv2 := [(0, .ref (ad 0)), (1, .int (0 : Int32)), (2, .int (0 : Int32))]) hX dX7_clashes_3 (Nat.le_of_ble_eq_true rfl) [1, 2, 0] rfl 4 rfl ?_
  obtain ⟨n9, h⟩ := h
  exact tmw_clashes_L4 hX hK hD n9 _ _ _ h
theorem hd_mw_clashes : yX7_clashes.cls = RX7 ∧ yX7_clashes.cls ≠ "java/lang/invoke/MethodHandle" ∧ yX7_clashes.cls ≠ "java/lang/invoke/VarHandle" ∧ (parseMethodDescriptor yX7_clashes.desc).map (fun d => d.parameters.length) = some 0 := by decide +kernel
theorem kmw_clashes {X : JC} {Q : State → Prop} {nL k n pc : Nat} {lv : List (Nat × Value)} {st : List Value} {own : String} {cc : ByteArray} {ret : Option FieldType} {F LL mc ms ix : Nat} {D : va_G} {dA ad : Nat → Nat} {u : MS} {Post : Int32 → MS → Prop} (hX : JX X own cc nL ret F LL mc ms) (hK : KM D dA (jj_s X)) (hD : MD ad) (hlk : (Cond.methodLink own ix yX7_clashes) ∈ lw_all) (hF : 3 + 1 ≤ F) (hL : 8 + (4 + 11) + 66 ≤ LL) (hk : k ≤ mc) (hk2 : n ≤ ms) (hw : (st.map fun v => v.category).sum ≤ 8) (d : decode cc pc = .ok (.invokevirtual ix, 3)) (q : Nat) (hq : pc + 3 = q) (h : mw_clashes  u Post) (kk : ∀ (r : Int32) (u2 : MS), Post r u2 → JJ X (AM ad) Q nL (MW D dA ad u2) k n q lv (.int r :: st)) : JJ X (AM ad) Q nL (MW D dA ad u) k n pc lv (.ref (ad 0) :: st) :=
  jm_calli (na := 0) (As := []) hX hK (mmw_clashes (jj_l X) D dA ad hD  u Post h) hlk q2120 q2121 q129 q2122 hd_mw_clashes rfl rfl hw hF hL hk hk2 d q hq kk
/-- RaisedPressModel.overOf(II)I -/
def mw_overOf (x1 : Int32) (x2 : Int32) (u : MS) (Post : Int32 → MS → Prop) : Prop :=
  mw_cellsOf x1 u (fun r2 u2 =>
    ∀ v7 : Int32, v7 = (r2 - x2) →
    (¬ v7 = 0 →
      (¬ v7 = (1 : Int32) →
        mw_cellAt x1 x2 u2 (fun r35 u35 =>
          mw_cellAt x1 (x2 + (1 : Int32)) u35 (fun r44 u44 =>
            Post (((64 : Int32) * r35) + r44) u44))) ∧
      (v7 = (1 : Int32) →
        mw_cellAt x1 x2 u2 (fun r24 u24 =>
          Post r24 u24))) ∧
    (v7 = 0 →
      Post (0 : Int32) u2))
set_option maxHeartbeats 4000000 in
set_option maxRecDepth 100000 in
theorem mmw_overOf (l : Launch) (D : va_G) (dA ad : Nat → Nat) (hD : MD ad) (x1 : Int32) (x2 : Int32) (u : MS) (Post : Int32 → MS → Prop) (h : mw_overOf x1 x2 u Post) : Met l yX7_overOf (ws_ yX7_overOf cX7_overOf 4 (Option.some Jvm.ClassFile.FieldType.int)) (jm_rm 2 43) (jm_Pc D dA ad u [.int x1, .int x2]) (va_Qi Post (jm_B D dA ad) (AM ad)) 0 0 (AM ad) := by
  refine jm_start [.int x1, .int x2] [(0, .ref (ad 0)), (1, .int x1), (2, .int x2)] (by decide) (Nat.le_of_ble_eq_true rfl) rfl (fun X hX hK => ?_)
  unfold mw_overOf at h
  refine jj_aload_n hX dX7_overOf_0 0 rfl 1 rfl ?_
  refine jj_iload_n hX dX7_overOf_1 1 rfl 2 rfl ?_
  refine kmw_cellsOf hX hK hD q1848 (Nat.le_of_ble_eq_true rfl) (Nat.le_of_ble_eq_true rfl) (Nat.zero_le _) (Nat.zero_le _) (Nat.le_of_ble_eq_true rfl) dX7_overOf_2 5 rfl h (fun r2 u2 h => ?_)
  refine jj_iload_n hX dX7_overOf_5 2 rfl 6 rfl ?_
  refine jj_isub hX dX7_overOf_6 7 rfl ?_
  refine jj_topi (fun v7 e7 => ?_)
  have h := h v7 e7
  refine jj_istore_n (lv2 := [(0, .ref (ad 0)), (1, .int x1), (2, .int x2), (3, .int v7)]) hX dX7_overOf_7 (Nat.le_of_ble_eq_true rfl) [1, 2, 3, 0] rfl 8 rfl ?_
  refine jj_iload_n hX dX7_overOf_8 3 rfl 9 rfl ?_
  refine jj_if_ne hX dX7_overOf_9 16 12 (by decide) rfl (fun c9 => ?_) (fun c9 => ?_)
  · have h := h.1 c9
    refine jj_iload_n hX dX7_overOf_16 3 rfl 17 rfl ?_
    refine jj_iconst hX dX7_overOf_17 ci_1 18 rfl ?_
    refine jj_icmp_ne hX dX7_overOf_18 30 21 (by decide) rfl (fun c18 => ?_) (fun c18 => ?_)
    · have h := h.1 c18
      refine jj_bipush hX dX7_overOf_30 cb_64 32 rfl ?_
      refine jj_aload_n hX dX7_overOf_32 0 rfl 33 rfl ?_
      refine jj_iload_n hX dX7_overOf_33 1 rfl 34 rfl ?_
      refine jj_iload_n hX dX7_overOf_34 2 rfl 35 rfl ?_
      refine kmw_cellAt hX hK hD q1852 (Nat.le_of_ble_eq_true rfl) (Nat.le_of_ble_eq_true rfl) (Nat.zero_le _) (Nat.zero_le _) (Nat.le_of_ble_eq_true rfl) dX7_overOf_35 38 rfl h (fun r35 u35 h => ?_)
      refine jj_imul hX dX7_overOf_38 39 rfl ?_
      refine jj_aload_n hX dX7_overOf_39 0 rfl 40 rfl ?_
      refine jj_iload_n hX dX7_overOf_40 1 rfl 41 rfl ?_
      refine jj_iload_n hX dX7_overOf_41 2 rfl 42 rfl ?_
      refine jj_iconst hX dX7_overOf_42 ci_1 43 rfl ?_
      refine jj_iadd hX dX7_overOf_43 44 rfl ?_
      refine kmw_cellAt hX hK hD q1852 (Nat.le_of_ble_eq_true rfl) (Nat.le_of_ble_eq_true rfl) (Nat.zero_le _) (Nat.zero_le _) (Nat.le_of_ble_eq_true rfl) dX7_overOf_44 47 rfl h (fun r44 u44 h => ?_)
      refine jj_iadd hX dX7_overOf_47 48 rfl ?_
      exact jj_reti (post := Post) (u := u44) hX dX7_overOf_48 (Nat.le_refl 0) (Nat.le_refl 0) jm_hB h
    · have h := h.2 c18
      refine jj_aload_n hX dX7_overOf_21 0 rfl 22 rfl ?_
      refine jj_iload_n hX dX7_overOf_22 1 rfl 23 rfl ?_
      refine jj_iload_n hX dX7_overOf_23 2 rfl 24 rfl ?_
      refine kmw_cellAt hX hK hD q1852 (Nat.le_of_ble_eq_true rfl) (Nat.le_of_ble_eq_true rfl) (Nat.zero_le _) (Nat.zero_le _) (Nat.le_of_ble_eq_true rfl) dX7_overOf_24 27 rfl h (fun r24 u24 h => ?_)
      refine jj_goto hX dX7_overOf_27 48 (by decide) ?_
      exact jj_reti (post := Post) (u := u24) hX dX7_overOf_48 (Nat.le_refl 0) (Nat.le_refl 0) jm_hB h
  · have h := h.2 c9
    refine jj_iconst hX dX7_overOf_12 ci_0 13 rfl ?_
    refine jj_goto hX dX7_overOf_13 48 (by decide) ?_
    exact jj_reti (post := Post) (u := u2) hX dX7_overOf_48 (Nat.le_refl 0) (Nat.le_refl 0) jm_hB h
theorem hd_mw_overOf : yX7_overOf.cls = RX7 ∧ yX7_overOf.cls ≠ "java/lang/invoke/MethodHandle" ∧ yX7_overOf.cls ≠ "java/lang/invoke/VarHandle" ∧ (parseMethodDescriptor yX7_overOf.desc).map (fun d => d.parameters.length) = some 2 := by decide +kernel
theorem kmw_overOf {X : JC} {Q : State → Prop} {nL k n pc : Nat} {lv : List (Nat × Value)} {st : List Value} {own : String} {cc : ByteArray} {ret : Option FieldType} {F LL mc ms ix : Nat} {D : va_G} {dA ad : Nat → Nat} {x1 : Int32} {x2 : Int32} {u : MS} {Post : Int32 → MS → Prop} (hX : JX X own cc nL ret F LL mc ms) (hK : KM D dA (jj_s X)) (hD : MD ad) (hlk : (Cond.methodLink own ix yX7_overOf) ∈ lw_all) (hF : 2 + 1 ≤ F) (hL : 8 + (4 + 11) + 43 ≤ LL) (hk : k ≤ mc) (hk2 : n ≤ ms) (hw : (st.map fun v => v.category).sum ≤ 8) (d : decode cc pc = .ok (.invokevirtual ix, 3)) (q : Nat) (hq : pc + 3 = q) (h : mw_overOf x1 x2 u Post) (kk : ∀ (r : Int32) (u2 : MS), Post r u2 → JJ X (AM ad) Q nL (MW D dA ad u2) k n q lv (.int r :: st)) : JJ X (AM ad) Q nL (MW D dA ad u) k n pc lv (.int x2 :: .int x1 :: .ref (ad 0) :: st) :=
  jm_calli (na := 2) (As := [.int x1, .int x2]) hX hK (mmw_overOf (jj_l X) D dA ad hD x1 x2 u Post h) hlk q2133 qs112 q129 q2134 hd_mw_overOf rfl rfl hw hF hL hk hk2 d q hq kk
/-- RaisedPressModel.comesTo(II)Z -/
def mw_comesTo (x1 : Int32) (x2 : Int32) (u : MS) (Post : Int32 → MS → Prop) : Prop :=
  vp_in x1 4161 ∧
  (x2 < (jm_i u 20 x1.toNatClampNeg) →
    vp_in x1 4161 ∧
    ∀ u18 : MS, u18 = jm_s u 20 x1.toNatClampNeg x2 →
    Post (1 : Int32) u18) ∧
  (¬ x2 < (jm_i u 20 x1.toNatClampNeg) →
    Post (0 : Int32) u)
set_option maxHeartbeats 4000000 in
set_option maxRecDepth 100000 in
theorem mmw_comesTo (l : Launch) (D : va_G) (dA ad : Nat → Nat) (hD : MD ad) (x1 : Int32) (x2 : Int32) (u : MS) (Post : Int32 → MS → Prop) (h : mw_comesTo x1 x2 u Post) : Met l yX7_comesTo (ws_ yX7_comesTo cX7_comesTo 3 (Option.some Jvm.ClassFile.FieldType.boolean)) (jm_rm 0 0) (jm_Pc D dA ad u [.int x1, .int x2]) (va_Qi (fun r u => Post r u ∧ jj_z r) (jm_B D dA ad) (AM ad)) 0 0 (AM ad) := by
  refine jm_start [.int x1, .int x2] [(0, .ref (ad 0)), (1, .int x1), (2, .int x2)] (by decide) (Nat.le_of_ble_eq_true rfl) rfl (fun X hX hK => ?_)
  unfold mw_comesTo at h
  refine jj_iload_n hX dX7_comesTo_0 2 rfl 1 rfl ?_
  refine jt_40 hX hK dX7_comesTo_1 0 rfl dX7_comesTo_2 q1524 5 rfl rfl ?_
  refine jj_iload_n hX dX7_comesTo_5 1 rfl 6 rfl ?_
  obtain ⟨hi6, h⟩ := h
  refine jr_20 hX hK _ rfl hi6 dX7_comesTo_6 7 rfl ?_
  refine jj_icmp_lt hX dX7_comesTo_7 12 10 (by decide) rfl (fun c7 => ?_) (fun c7 => ?_)
  · have h := h.1 c7
    refine jt_40 hX hK dX7_comesTo_12 0 rfl dX7_comesTo_13 q1524 16 rfl rfl ?_
    refine jj_iload_n hX dX7_comesTo_16 1 rfl 17 rfl ?_
    refine jj_iload_n hX dX7_comesTo_17 2 rfl 18 rfl ?_
    obtain ⟨hi18, h⟩ := h
    refine jw_20 hX hK hD _ rfl hi18 dX7_comesTo_18 19 rfl (fun u18 e18 => ?_)
    have h := h u18 e18
    refine jj_iconst hX dX7_comesTo_19 ci_1 20 rfl ?_
    exact jj_retz (post := Post) (u := u18) hX dX7_comesTo_20 (Nat.le_refl 0) (Nat.le_refl 0) jm_hB jj_z1 h
  · have h := h.2 c7
    refine jj_iconst hX dX7_comesTo_10 ci_0 11 rfl ?_
    exact jj_retz (post := Post) (u := u) hX dX7_comesTo_11 (Nat.le_refl 0) (Nat.le_refl 0) jm_hB jj_z0 h
theorem hd_mw_comesTo : yX7_comesTo.cls = RX7 ∧ yX7_comesTo.cls ≠ "java/lang/invoke/MethodHandle" ∧ yX7_comesTo.cls ≠ "java/lang/invoke/VarHandle" ∧ (parseMethodDescriptor yX7_comesTo.desc).map (fun d => d.parameters.length) = some 2 := by decide +kernel
theorem kmw_comesTo {X : JC} {Q : State → Prop} {nL k n pc : Nat} {lv : List (Nat × Value)} {st : List Value} {own : String} {cc : ByteArray} {ret : Option FieldType} {F LL mc ms ix : Nat} {D : va_G} {dA ad : Nat → Nat} {x1 : Int32} {x2 : Int32} {u : MS} {Post : Int32 → MS → Prop} (hX : JX X own cc nL ret F LL mc ms) (hK : KM D dA (jj_s X)) (hD : MD ad) (hlk : (Cond.methodLink own ix yX7_comesTo) ∈ lw_all) (hF : 0 + 1 ≤ F) (hL : 8 + (3 + 11) + 0 ≤ LL) (hk : k ≤ mc) (hk2 : n ≤ ms) (hw : (st.map fun v => v.category).sum ≤ 8) (d : decode cc pc = .ok (.invokevirtual ix, 3)) (q : Nat) (hq : pc + 3 = q) (h : mw_comesTo x1 x2 u Post) (kk : ∀ (r : Int32) (u2 : MS), jj_z r → Post r u2 → JJ X (AM ad) Q nL (MW D dA ad u2) k n q lv (.int r :: st)) : JJ X (AM ad) Q nL (MW D dA ad u) k n pc lv (.int x2 :: .int x1 :: .ref (ad 0) :: st) :=
  jm_callz (na := 2) (As := [.int x1, .int x2]) hX hK (mmw_comesTo (jj_l X) D dA ad hD x1 x2 u Post h) hlk q2137 qs113 q129 q2138 hd_mw_comesTo rfl rfl hw hF hL hk hk2 d q hq kk
/-- RaisedPressModel.sizeOf(I)I -/
def mw_sizeOf (x0 : Int32) (Post : Int32 → Prop) : Prop :=
  (¬ x0 = 0 →
    ((64 : Int32) ≤ x0 →
      Post (2 : Int32)) ∧
    (¬ (64 : Int32) ≤ x0 →
      Post (1 : Int32))) ∧
  (x0 = 0 →
    Post (0 : Int32))
set_option maxHeartbeats 4000000 in
set_option maxRecDepth 100000 in
theorem mmw_sizeOf (l : Launch) (x0 : Int32) (Post : Int32 → Prop) (h : mw_sizeOf x0 Post) : Met l yX7_sizeOf (ws_ yX7_sizeOf cX7_sizeOf 1 (Option.some Jvm.ClassFile.FieldType.int)) (jm_rm 0 0) (js_Pc [.int x0]) (va_Qi (fun r (_ : Unit) => Post r) js_B js_A) 0 0 js_A := by
  refine js_start [.int x0] [(0, .int x0)] (by decide) (Nat.le_of_ble_eq_true rfl) rfl (fun X hX => ?_)
  unfold mw_sizeOf at h
  refine jj_iload_n hX dX7_sizeOf_0 0 rfl 1 rfl ?_
  refine jj_if_ne hX dX7_sizeOf_1 8 4 (by decide) rfl (fun c1 => ?_) (fun c1 => ?_)
  · have h := h.1 c1
    refine jj_iload_n hX dX7_sizeOf_8 0 rfl 9 rfl ?_
    refine jj_bipush hX dX7_sizeOf_9 cb_64 11 rfl ?_
    refine jj_icmp_ge hX dX7_sizeOf_11 18 14 (by decide) rfl (fun c11 => ?_) (fun c11 => ?_)
    · have h := h.1 c11
      refine jj_iconst hX dX7_sizeOf_18 ci_2 19 rfl ?_
      exact jj_reti (post := (fun r (_ : Unit) => Post r)) (u := ()) hX dX7_sizeOf_19 (Nat.le_refl 0) (Nat.le_refl 0) js_hB h
    · have h := h.2 c11
      refine jj_iconst hX dX7_sizeOf_14 ci_1 15 rfl ?_
      refine jj_goto hX dX7_sizeOf_15 19 (by decide) ?_
      exact jj_reti (post := (fun r (_ : Unit) => Post r)) (u := ()) hX dX7_sizeOf_19 (Nat.le_refl 0) (Nat.le_refl 0) js_hB h
  · have h := h.2 c1
    refine jj_iconst hX dX7_sizeOf_4 ci_0 5 rfl ?_
    refine jj_goto hX dX7_sizeOf_5 19 (by decide) ?_
    exact jj_reti (post := (fun r (_ : Unit) => Post r)) (u := ()) hX dX7_sizeOf_19 (Nat.le_refl 0) (Nat.le_refl 0) js_hB h
theorem hd_mw_sizeOf : yX7_sizeOf.cls ≠ "java/lang/invoke/MethodHandle" ∧ yX7_sizeOf.cls ≠ "java/lang/invoke/VarHandle" ∧ (parseMethodDescriptor yX7_sizeOf.desc).map (fun d => d.parameters.length) = some 1 := by decide +kernel
theorem kmw_sizeOf {X : JC} {A : Nat → Prop} {Q : State → Prop} {P : Heap → Prop} {nL k n pc : Nat} {lv : List (Nat × Value)} {st : List Value} {own : String} {cc : ByteArray} {ret : Option FieldType} {F LL mc ms ix : Nat} {x0 : Int32} {Post : Int32 → Prop} (hX : JX X own cc nL ret F LL mc ms) (hKP : jj_Keeps P) (hlk : (Cond.methodLink own ix yX7_sizeOf) ∈ lw_all) (hF : 0 + 1 ≤ F) (hL : 8 + (1 + 11) + 0 ≤ LL) (hk : k ≤ mc) (hk2 : n ≤ ms) (hw : (st.map fun v => v.category).sum ≤ 8) (d : decode cc pc = .ok (.invokestatic ix, 3)) (q : Nat) (hq : pc + 3 = q) (h : mw_sizeOf x0 Post) (kk : ∀ r : Int32, Post r → JJ X A Q nL P k n q lv (.int r :: st)) : JJ X A Q nL P k n pc lv (.int x0 :: st) :=
  js_calli (na := 1) (As := [.int x0]) hX hKP (mmw_sizeOf (jj_l X) x0 Post h) hlk q2144 q129 q2145 hd_mw_sizeOf rfl rfl hw hF hL hk hk2 d q hq kk
/-- RaisedPressModel.cellIn(II)I -/
def mw_cellIn (x0 : Int32) (x1 : Int32) (Post : Int32 → Prop) : Prop :=
  ((64 : Int32) ≤ x0 →
    (¬ x1 = 0 →
      Post (x0 - x0 / (64 : Int32) * (64 : Int32))) ∧
    (x1 = 0 →
      Post (x0 / (64 : Int32)))) ∧
  (¬ (64 : Int32) ≤ x0 →
    Post x0)
set_option maxHeartbeats 4000000 in
set_option maxRecDepth 100000 in
theorem mmw_cellIn (l : Launch) (x0 : Int32) (x1 : Int32) (Post : Int32 → Prop) (h : mw_cellIn x0 x1 Post) : Met l yX7_cellIn (ws_ yX7_cellIn cX7_cellIn 2 (Option.some Jvm.ClassFile.FieldType.int)) (jm_rm 0 0) (js_Pc [.int x0, .int x1]) (va_Qi (fun r (_ : Unit) => Post r) js_B js_A) 0 0 js_A := by
  refine js_start [.int x0, .int x1] [(0, .int x0), (1, .int x1)] (by decide) (Nat.le_of_ble_eq_true rfl) rfl (fun X hX => ?_)
  unfold mw_cellIn at h
  refine jj_iload_n hX dX7_cellIn_0 0 rfl 1 rfl ?_
  refine jj_bipush hX dX7_cellIn_1 cb_64 3 rfl ?_
  refine jj_icmp_ge hX dX7_cellIn_3 10 6 (by decide) rfl (fun c3 => ?_) (fun c3 => ?_)
  · have h := h.1 c3
    refine jj_iload_n hX dX7_cellIn_10 1 rfl 11 rfl ?_
    refine jj_if_ne hX dX7_cellIn_11 21 14 (by decide) rfl (fun c11 => ?_) (fun c11 => ?_)
    · have h := h.1 c11
      refine jj_iload_n hX dX7_cellIn_21 0 rfl 22 rfl ?_
      refine jj_bipush hX dX7_cellIn_22 cb_64 24 rfl ?_
      refine jj_irem hX dX7_cellIn_24 (by decide) 25 rfl ?_
      exact jj_reti (post := (fun r (_ : Unit) => Post r)) (u := ()) hX dX7_cellIn_25 (Nat.le_refl 0) (Nat.le_refl 0) js_hB h
    · have h := h.2 c11
      refine jj_iload_n hX dX7_cellIn_14 0 rfl 15 rfl ?_
      refine jj_bipush hX dX7_cellIn_15 cb_64 17 rfl ?_
      refine jj_idiv hX dX7_cellIn_17 (by decide) 18 rfl ?_
      refine jj_goto hX dX7_cellIn_18 25 (by decide) ?_
      exact jj_reti (post := (fun r (_ : Unit) => Post r)) (u := ()) hX dX7_cellIn_25 (Nat.le_refl 0) (Nat.le_refl 0) js_hB h
  · have h := h.2 c3
    refine jj_iload_n hX dX7_cellIn_6 0 rfl 7 rfl ?_
    refine jj_goto hX dX7_cellIn_7 25 (by decide) ?_
    exact jj_reti (post := (fun r (_ : Unit) => Post r)) (u := ()) hX dX7_cellIn_25 (Nat.le_refl 0) (Nat.le_refl 0) js_hB h
theorem hd_mw_cellIn : yX7_cellIn.cls ≠ "java/lang/invoke/MethodHandle" ∧ yX7_cellIn.cls ≠ "java/lang/invoke/VarHandle" ∧ (parseMethodDescriptor yX7_cellIn.desc).map (fun d => d.parameters.length) = some 2 := by decide +kernel
theorem kmw_cellIn {X : JC} {A : Nat → Prop} {Q : State → Prop} {P : Heap → Prop} {nL k n pc : Nat} {lv : List (Nat × Value)} {st : List Value} {own : String} {cc : ByteArray} {ret : Option FieldType} {F LL mc ms ix : Nat} {x0 : Int32} {x1 : Int32} {Post : Int32 → Prop} (hX : JX X own cc nL ret F LL mc ms) (hKP : jj_Keeps P) (hlk : (Cond.methodLink own ix yX7_cellIn) ∈ lw_all) (hF : 0 + 1 ≤ F) (hL : 8 + (2 + 11) + 0 ≤ LL) (hk : k ≤ mc) (hk2 : n ≤ ms) (hw : (st.map fun v => v.category).sum ≤ 8) (d : decode cc pc = .ok (.invokestatic ix, 3)) (q : Nat) (hq : pc + 3 = q) (h : mw_cellIn x0 x1 Post) (kk : ∀ r : Int32, Post r → JJ X A Q nL P k n q lv (.int r :: st)) : JJ X A Q nL P k n pc lv (.int x1 :: .int x0 :: st) :=
  js_calli (na := 2) (As := [.int x0, .int x1]) hX hKP (mmw_cellIn (jj_l X) x0 x1 Post h) hlk q2147 q129 q2148 hd_mw_cellIn rfl rfl hw hF hL hk hk2 d q hq kk
def mw_goesOn_B52 (Post : Int32 → MS → Prop) (x1 : Int32) (x2 : Int32) (x3 : Int32) (x4 : Int32) (u : MS) : Prop :=
  (x4 < x3 →
    mw_cellIn x1 (1 : Int32) (fun r83 =>
      vp_in x1 4161 ∧
      mw_comesTo r83 (jm_i u 20 x1.toNatClampNeg) u (fun r92 u92 =>
        Post r92 u92))) ∧
  (¬ x4 < x3 →
    mw_overOf x2 x3 u (fun r62 u62 =>
      vp_in x1 4161 ∧
      mw_comesTo r62 (((jm_i u62 20 x1.toNatClampNeg) + x4) - x3) u62 (fun r76 u76 =>
        Post r76 u76)))
def mw_goesOn_L15_S (Post : Int32 → MS → Prop) (x1 : Int32) (x2 : Int32) (x3 : Int32) (x4 : Int32) (R : Int32 → MS → Prop) (x5 : Int32) (u : MS) : Prop :=
  (x3 ≤ x5 →
    mw_goesOn_B52 Post x1 x2 x3 x4 u) ∧
  (¬ x3 ≤ x5 →
    (x4 ≤ x5 →
      mw_goesOn_B52 Post x1 x2 x3 x4 u) ∧
    (¬ x4 ≤ x5 →
      mw_cellIn x1 x5 (fun r31 =>
        mw_cellAt x2 x5 u (fun r38 u38 =>
          (r31 = r38 →
            ∀ v46 : Int32, v46 = x5 + (1 : Int32) →
            R v46 u38) ∧
          (¬ r31 = r38 →
            Post (0 : Int32) u38)))))
def mw_goesOn_L15 (Post : Int32 → MS → Prop) (x1 : Int32) (x2 : Int32) (x3 : Int32) (x4 : Int32) : Nat → Int32 → MS → Prop
  | 0 => fun _ _ => False
  | n + 1 => fun x5 u => mw_goesOn_L15_S Post x1 x2 x3 x4 (mw_goesOn_L15 Post x1 x2 x3 x4 n) x5 u
/-- RaisedPressModel.goesOn(II)Z -/
def mw_goesOn (x1 : Int32) (x2 : Int32) (u : MS) (Post : Int32 → MS → Prop) : Prop :=
  mw_sizeOf x1 (fun r1 =>
    mw_cellsOf x2 u (fun r7 u7 =>
      ∃ n, mw_goesOn_L15 Post x1 x2 r1 r7 n (0 : Int32) u7))
set_option maxHeartbeats 4000000 in
set_option maxRecDepth 100000 in
theorem tmw_goesOn_B52 {X : JC} {D : va_G} {dA ad : Nat → Nat} {Post : Int32 → MS → Prop} {x1 : Int32} {x2 : Int32} {x3 : Int32} {x4 : Int32} {u : MS} (hX : JX X yX7_goesOn.cls cX7_goesOn 6 (Option.some Jvm.ClassFile.FieldType.boolean) 3 66 0 0) (hK : KM D dA (jj_s X)) (hD : MD ad) (h : mw_goesOn_B52 Post x1 x2 x3 x4  u) : JJ X (AM ad) (jj_Q X (va_Qi (fun r u => Post r u ∧ jj_z r) (jm_B D dA ad) (AM ad)) 0 0 (AM ad)) 6 (MW D dA ad u) 0 0 52 [(0, .ref (ad 0)), (1, .int x1), (2, .int x2), (3, .int x3), (4, .int x4)] [] := by
  unfold mw_goesOn_B52 at h
  refine jj_iload hX dX7_goesOn_52 4 rfl 54 rfl ?_
  refine jj_iload_n hX dX7_goesOn_54 3 rfl 55 rfl ?_
  refine jj_icmp_lt hX dX7_goesOn_55 80 58 (by decide) rfl (fun c55 => ?_) (fun c55 => ?_)
  · have h := h.1 c55
    refine jj_aload_n hX dX7_goesOn_80 0 rfl 81 rfl ?_
    refine jj_iload_n hX dX7_goesOn_81 1 rfl 82 rfl ?_
    refine jj_iconst hX dX7_goesOn_82 ci_1 83 rfl ?_
    refine kmw_cellIn hX MW.keeps q2146 (Nat.le_of_ble_eq_true rfl) (Nat.le_of_ble_eq_true rfl) (Nat.zero_le _) (Nat.zero_le _) (Nat.le_of_ble_eq_true rfl) dX7_goesOn_83 86 rfl h (fun r83 h => ?_)
    refine jt_40 hX hK dX7_goesOn_86 0 rfl dX7_goesOn_87 q1524 90 rfl rfl ?_
    refine jj_iload_n hX dX7_goesOn_90 1 rfl 91 rfl ?_
    obtain ⟨hi91, h⟩ := h
    refine jr_20 hX hK _ rfl hi91 dX7_goesOn_91 92 rfl ?_
    refine kmw_comesTo hX hK hD q2135 (Nat.le_of_ble_eq_true rfl) (Nat.le_of_ble_eq_true rfl) (Nat.zero_le _) (Nat.zero_le _) (Nat.le_of_ble_eq_true rfl) dX7_goesOn_92 95 rfl h (fun r92 u92 hb92 h => ?_)
    exact jj_retz (post := Post) (u := u92) hX dX7_goesOn_95 (Nat.le_refl 0) (Nat.le_refl 0) jm_hB hb92 h
  · have h := h.2 c55
    refine jj_aload_n hX dX7_goesOn_58 0 rfl 59 rfl ?_
    refine jj_aload_n hX dX7_goesOn_59 0 rfl 60 rfl ?_
    refine jj_iload_n hX dX7_goesOn_60 2 rfl 61 rfl ?_
    refine jj_iload_n hX dX7_goesOn_61 3 rfl 62 rfl ?_
    refine kmw_overOf hX hK hD q2131 (Nat.le_of_ble_eq_true rfl) (Nat.le_of_ble_eq_true rfl) (Nat.zero_le _) (Nat.zero_le _) (Nat.le_of_ble_eq_true rfl) dX7_goesOn_62 65 rfl h (fun r62 u62 h => ?_)
    refine jt_40 hX hK dX7_goesOn_65 0 rfl dX7_goesOn_66 q1524 69 rfl rfl ?_
    refine jj_iload_n hX dX7_goesOn_69 1 rfl 70 rfl ?_
    obtain ⟨hi70, h⟩ := h
    refine jr_20 hX hK _ rfl hi70 dX7_goesOn_70 71 rfl ?_
    refine jj_iload hX dX7_goesOn_71 4 rfl 73 rfl ?_
    refine jj_iadd hX dX7_goesOn_73 74 rfl ?_
    refine jj_iload_n hX dX7_goesOn_74 3 rfl 75 rfl ?_
    refine jj_isub hX dX7_goesOn_75 76 rfl ?_
    refine kmw_comesTo hX hK hD q2135 (Nat.le_of_ble_eq_true rfl) (Nat.le_of_ble_eq_true rfl) (Nat.zero_le _) (Nat.zero_le _) (Nat.le_of_ble_eq_true rfl) dX7_goesOn_76 79 rfl h (fun r76 u76 hb76 h => ?_)
    exact jj_retz (post := Post) (u := u76) hX dX7_goesOn_79 (Nat.le_refl 0) (Nat.le_refl 0) jm_hB hb76 h
set_option maxHeartbeats 4000000 in
set_option maxRecDepth 100000 in
theorem tmw_goesOn_L15 {X : JC} {D : va_G} {dA ad : Nat → Nat} {Post : Int32 → MS → Prop} {x1 : Int32} {x2 : Int32} {x3 : Int32} {x4 : Int32} (hX : JX X yX7_goesOn.cls cX7_goesOn 6 (Option.some Jvm.ClassFile.FieldType.boolean) 3 66 0 0) (hK : KM D dA (jj_s X)) (hD : MD ad) : ∀ (n : Nat) (x5 : Int32) (u : MS), mw_goesOn_L15 Post x1 x2 x3 x4 n x5 u → JJ X (AM ad) (jj_Q X (va_Qi (fun r u => Post r u ∧ jj_z r) (jm_B D dA ad) (AM ad)) 0 0 (AM ad)) 6 (MW D dA ad u) 0 0 15 [(0, .ref (ad 0)), (1, .int x1), (2, .int x2), (3, .int x3), (4, .int x4), (5, .int x5)] [] := by
  intro n
  induction n with
  | zero =>
    intro x5 u h
    exact h.elim
  | succ n ih =>
    intro x5 u h
    have h : mw_goesOn_L15_S Post x1 x2 x3 x4 (mw_goesOn_L15 Post x1 x2 x3 x4 n) x5 u := h
    unfold mw_goesOn_L15_S at h
    refine jj_iload hX dX7_goesOn_15 5 rfl 17 rfl ?_
    refine jj_iload_n hX dX7_goesOn_17 3 rfl 18 rfl ?_
    refine jj_icmp_ge hX dX7_goesOn_18 52 21 (by decide) rfl (fun c18 => ?_) (fun c18 => ?_)
    · have h := h.1 c18
      refine jj_sub (lv2 := [(0, .ref (ad 0)), (1, .int x1), (2, .int x2), (3, .int x3), (4, .int x4)]) [0, 1, 2, 3, 4] rfl ?_
      exact tmw_goesOn_B52 hX hK hD h
    · have h := h.2 c18
      refine jj_iload hX dX7_goesOn_21 5 rfl 23 rfl ?_
      refine jj_iload hX dX7_goesOn_23 4 rfl 25 rfl ?_
      refine jj_icmp_ge hX dX7_goesOn_25 52 28 (by decide) rfl (fun c25 => ?_) (fun c25 => ?_)
      · have h := h.1 c25
        refine jj_sub (lv2 := [(0, .ref (ad 0)), (1, .int x1), (2, .int x2), (3, .int x3), (4, .int x4)]) [0, 1, 2, 3, 4] rfl ?_
        exact tmw_goesOn_B52 hX hK hD h
      · have h := h.2 c25
        refine jj_iload_n hX dX7_goesOn_28 1 rfl 29 rfl ?_
        refine jj_iload hX dX7_goesOn_29 5 rfl 31 rfl ?_
        refine kmw_cellIn hX MW.keeps q2146 (Nat.le_of_ble_eq_true rfl) (Nat.le_of_ble_eq_true rfl) (Nat.zero_le _) (Nat.zero_le _) (Nat.le_of_ble_eq_true rfl) dX7_goesOn_31 34 rfl h (fun r31 h => ?_)
        refine jj_aload_n hX dX7_goesOn_34 0 rfl 35 rfl ?_
        refine jj_iload_n hX dX7_goesOn_35 2 rfl 36 rfl ?_
        refine jj_iload hX dX7_goesOn_36 5 rfl 38 rfl ?_
        refine kmw_cellAt hX hK hD q1852 (Nat.le_of_ble_eq_true rfl) (Nat.le_of_ble_eq_true rfl) (Nat.zero_le _) (Nat.zero_le _) (Nat.le_of_ble_eq_true rfl) dX7_goesOn_38 41 rfl h (fun r38 u38 h => ?_)
        refine jj_icmp_eq hX dX7_goesOn_41 46 44 (by decide) rfl (fun c41 => ?_) (fun c41 => ?_)
        · have h := h.1 c41
          obtain ⟨v46, e46⟩ : ∃ y : Int32, y = x5 + (1 : Int32) := ⟨_, rfl⟩
          have h := h v46 e46
          refine jj_iinc (v := v46) (lv2 := [(0, .ref (ad 0)), (1, .int x1), (2, .int x2), (3, .int x3), (4, .int x4), (5, .int v46)]) hX dX7_goesOn_46 5 rfl (by rw [e46, ci_1]) (Nat.le_of_ble_eq_true rfl) [1, 2, 3, 4, 5, 0] rfl 49 rfl ?_
          refine jj_goto hX dX7_goesOn_49 15 (by decide) ?_
          exact ih _ _ h
        · have h := h.2 c41
          refine jj_iconst hX dX7_goesOn_44 ci_0 45 rfl ?_
          exact jj_retz (post := Post) (u := u38) hX dX7_goesOn_45 (Nat.le_refl 0) (Nat.le_refl 0) jm_hB jj_z0 h
set_option maxHeartbeats 4000000 in
set_option maxRecDepth 100000 in
theorem mmw_goesOn (l : Launch) (D : va_G) (dA ad : Nat → Nat) (hD : MD ad) (x1 : Int32) (x2 : Int32) (u : MS) (Post : Int32 → MS → Prop) (h : mw_goesOn x1 x2 u Post) : Met l yX7_goesOn (ws_ yX7_goesOn cX7_goesOn 6 (Option.some Jvm.ClassFile.FieldType.boolean)) (jm_rm 3 66) (jm_Pc D dA ad u [.int x1, .int x2]) (va_Qi (fun r u => Post r u ∧ jj_z r) (jm_B D dA ad) (AM ad)) 0 0 (AM ad) := by
  refine jm_start [.int x1, .int x2] [(0, .ref (ad 0)), (1, .int x1), (2, .int x2)] (by decide) (Nat.le_of_ble_eq_true rfl) rfl (fun X hX hK => ?_)
  unfold mw_goesOn at h
  refine jj_iload_n hX dX7_goesOn_0 1 rfl 1 rfl ?_
  refine kmw_sizeOf hX MW.keeps q2143 (Nat.le_of_ble_eq_true rfl) (Nat.le_of_ble_eq_true rfl) (Nat.zero_le _) (Nat.zero_le _) (Nat.le_of_ble_eq_true rfl) dX7_goesOn_1 4 rfl h (fun r1 h => ?_)
  refine jj_istore_n (lv2 := [(0, .ref (ad 0)), (1, .int x1), (2, .int x2), (3, .int r1)]) hX dX7_goesOn_4 (Nat.le_of_ble_eq_true rfl) [1, 2, 3, 0] rfl 5 rfl ?_
  refine jj_aload_n hX dX7_goesOn_5 0 rfl 6 rfl ?_
  refine jj_iload_n hX dX7_goesOn_6 2 rfl 7 rfl ?_
  refine kmw_cellsOf hX hK hD q1848 (Nat.le_of_ble_eq_true rfl) (Nat.le_of_ble_eq_true rfl) (Nat.zero_le _) (Nat.zero_le _) (Nat.le_of_ble_eq_true rfl) dX7_goesOn_7 10 rfl h (fun r7 u7 h => ?_)
  refine jj_istore (lv2 := [(0, .ref (ad 0)), (1, .int x1), (2, .int x2), (3, .int r1), (4, .int r7)]) hX dX7_goesOn_10 (Nat.le_of_ble_eq_true rfl) [1, 2, 3, 4, 0] rfl 12 rfl ?_
  refine jj_iconst hX dX7_goesOn_12 ci_0 13 rfl ?_
  refine jj_istore (lv2 := [(0, .ref (ad 0)), (1, .int x1), (2, .int x2), (3, .int r1), (4, .int r7), (5, .int (0 : Int32))]) hX dX7_goesOn_13 (Nat.le_of_ble_eq_true rfl) [1, 2, 3, 4, 5, 0] rfl 15 rfl ?_
  obtain ⟨n9, h⟩ := h
  exact tmw_goesOn_L15 hX hK hD n9 _ _ h
theorem hd_mw_goesOn : yX7_goesOn.cls = RX7 ∧ yX7_goesOn.cls ≠ "java/lang/invoke/MethodHandle" ∧ yX7_goesOn.cls ≠ "java/lang/invoke/VarHandle" ∧ (parseMethodDescriptor yX7_goesOn.desc).map (fun d => d.parameters.length) = some 2 := by decide +kernel
theorem kmw_goesOn {X : JC} {Q : State → Prop} {nL k n pc : Nat} {lv : List (Nat × Value)} {st : List Value} {own : String} {cc : ByteArray} {ret : Option FieldType} {F LL mc ms ix : Nat} {D : va_G} {dA ad : Nat → Nat} {x1 : Int32} {x2 : Int32} {u : MS} {Post : Int32 → MS → Prop} (hX : JX X own cc nL ret F LL mc ms) (hK : KM D dA (jj_s X)) (hD : MD ad) (hlk : (Cond.methodLink own ix yX7_goesOn) ∈ lw_all) (hF : 3 + 1 ≤ F) (hL : 8 + (6 + 11) + 66 ≤ LL) (hk : k ≤ mc) (hk2 : n ≤ ms) (hw : (st.map fun v => v.category).sum ≤ 8) (d : decode cc pc = .ok (.invokevirtual ix, 3)) (q : Nat) (hq : pc + 3 = q) (h : mw_goesOn x1 x2 u Post) (kk : ∀ (r : Int32) (u2 : MS), jj_z r → Post r u2 → JJ X (AM ad) Q nL (MW D dA ad u2) k n q lv (.int r :: st)) : JJ X (AM ad) Q nL (MW D dA ad u) k n pc lv (.int x2 :: .int x1 :: .ref (ad 0) :: st) :=
  jm_callz (na := 2) (As := [.int x1, .int x2]) hX hK (mmw_goesOn (jj_l X) D dA ad hD x1 x2 u Post h) hlk q2141 qs114 q129 q2142 hd_mw_goesOn rfl rfl hw hF hL hk hk2 d q hq kk
