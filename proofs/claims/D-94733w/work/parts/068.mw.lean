set_option linter.unusedVariables false
def mw_twinOf_L140_S (K106 : Int32 → MS → Prop) (K114 : Int32 → Int32 → MS → Prop) (Post : Int32 → MS → Prop) (x2 : Int32) (R : Int32 → Int32 → MS → Prop) (x1 : Int32) (x3 : Int32) (u : MS) : Prop :=
  ((jm_i u 1 0) ≤ x3 →
    ∀ v181 : Int32, v181 = x2 + (1 : Int32) →
    K114 x1 v181 u) ∧
  (¬ (jm_i u 1 0) ≤ x3 →
    mw_isOut (jm_i u 1 6) x3 (fun r158 =>
      (¬ r158 = 0 →
        ∀ v175 : Int32, v175 = x3 + (1 : Int32) →
        R x1 v175 u) ∧
      (r158 = 0 →
        mw_goesOn x2 x3 u (fun r167 u167 =>
          (r167 = 0 →
            ∀ v175 : Int32, v175 = x3 + (1 : Int32) →
            R x1 v175 u167) ∧
          (¬ r167 = 0 →
            ∀ v175 : Int32, v175 = x3 + (1 : Int32) →
            R (1 : Int32) v175 u167)))))
def mw_twinOf_L140 (K106 : Int32 → MS → Prop) (K114 : Int32 → Int32 → MS → Prop) (Post : Int32 → MS → Prop) (x2 : Int32) : Nat → Int32 → Int32 → MS → Prop
  | 0 => fun _ _ _ => False
  | n + 1 => fun x1 x3 u => mw_twinOf_L140_S K106 K114 Post x2 (mw_twinOf_L140 K106 K114 Post x2 n) x1 x3 u
def mw_twinOf_L114_S (K106 : Int32 → MS → Prop) (Post : Int32 → MS → Prop) (R : Int32 → Int32 → MS → Prop) (x1 : Int32) (x2 : Int32) (u : MS) : Prop :=
  ((4161 : Int32) ≤ x2 →
    K106 x1 u) ∧
  (¬ (4161 : Int32) ≤ x2 →
    vp_in x2 4161 ∧
    (¬ (jm_i u 20 x2.toNatClampNeg) = (1000000 : Int32) →
      ∃ n, mw_twinOf_L140 K106 R Post x2 n x1 (0 : Int32) u) ∧
    ((jm_i u 20 x2.toNatClampNeg) = (1000000 : Int32) →
      ∀ v181 : Int32, v181 = x2 + (1 : Int32) →
      R x1 v181 u))
def mw_twinOf_L114 (K106 : Int32 → MS → Prop) (Post : Int32 → MS → Prop) : Nat → Int32 → Int32 → MS → Prop
  | 0 => fun _ _ _ => False
  | n + 1 => fun x1 x2 u => mw_twinOf_L114_S K106 Post (mw_twinOf_L114 K106 Post n) x1 x2 u
def mw_twinOf_L106_S (Post : Int32 → MS → Prop) (R : Int32 → MS → Prop) (x1 : Int32) (u : MS) : Prop :=
  (x1 = 0 →
    Post (jm_i u 20 0) u) ∧
  (¬ x1 = 0 →
    ∃ n, mw_twinOf_L114 R Post n (0 : Int32) (1 : Int32) u)
def mw_twinOf_L106 (Post : Int32 → MS → Prop) : Nat → Int32 → MS → Prop
  | 0 => fun _ _ => False
  | n + 1 => fun x1 u => mw_twinOf_L106_S Post (mw_twinOf_L106 Post n) x1 u
def mw_twinOf_L42_S (K30 : Int32 → Int32 → MS → Prop) (Post : Int32 → MS → Prop) (x2 : Int32) (R : Int32 → Int32 → MS → Prop) (x1 : Int32) (x3 : Int32) (u : MS) : Prop :=
  ((jm_i u 1 0) ≤ x3 →
    ∀ v100 : Int32, v100 = x2 + (1 : Int32) →
    K30 x1 v100 u) ∧
  (¬ (jm_i u 1 0) ≤ x3 →
    mw_areIn x2 x3 u (fun r55 u55 =>
      (r55 = 0 →
        ∀ v94 : Int32, v94 = x3 + (1 : Int32) →
        R x1 v94 u55) ∧
      (¬ r55 = 0 →
        mw_doClash x2 x3 u55 (fun r64 u64 =>
          (r64 = 0 →
            ∀ v94 : Int32, v94 = x3 + (1 : Int32) →
            R x1 v94 u64) ∧
          (¬ r64 = 0 →
            mw_cellsOf x2 u64 (fun r75 u75 =>
              mw_overOf x3 r75 u75 (fun r78 u78 =>
                mw_cellsOf x3 u78 (fun r83 u83 =>
                  mw_comesTo r78 r83 u83 (fun r86 u86 =>
                    (r86 = 0 →
                      ∀ v94 : Int32, v94 = x3 + (1 : Int32) →
                      R x1 v94 u86) ∧
                    (¬ r86 = 0 →
                      ∀ v94 : Int32, v94 = x3 + (1 : Int32) →
                      R (1 : Int32) v94 u86))))))))))
def mw_twinOf_L42 (K30 : Int32 → Int32 → MS → Prop) (Post : Int32 → MS → Prop) (x2 : Int32) : Nat → Int32 → Int32 → MS → Prop
  | 0 => fun _ _ _ => False
  | n + 1 => fun x1 x3 u => mw_twinOf_L42_S K30 Post x2 (mw_twinOf_L42 K30 Post x2 n) x1 x3 u
def mw_twinOf_L30_S (Post : Int32 → MS → Prop) (R : Int32 → Int32 → MS → Prop) (x1 : Int32) (x2 : Int32) (u : MS) : Prop :=
  ((jm_i u 1 0) ≤ x2 →
    ∃ n, mw_twinOf_L106 Post n x1 u) ∧
  (¬ (jm_i u 1 0) ≤ x2 →
    ∃ n, mw_twinOf_L42 R Post x2 n x1 (0 : Int32) u)
def mw_twinOf_L30 (Post : Int32 → MS → Prop) : Nat → Int32 → Int32 → MS → Prop
  | 0 => fun _ _ _ => False
  | n + 1 => fun x1 x2 u => mw_twinOf_L30_S Post (mw_twinOf_L30 Post n) x1 x2 u
def mw_twinOf_L2_S (Post : Int32 → MS → Prop) (R : Int32 → MS → Prop) (x1 : Int32) (u : MS) : Prop :=
  ((4161 : Int32) ≤ x1 →
    ∃ n, mw_twinOf_L30 Post n (0 : Int32) (0 : Int32) u) ∧
  (¬ (4161 : Int32) ≤ x1 →
    vp_in x1 4161 ∧
    ∀ u19 : MS, u19 = jm_s u 20 x1.toNatClampNeg (1000000 : Int32) →
    ∀ v20 : Int32, v20 = x1 + (1 : Int32) →
    R v20 u19)
def mw_twinOf_L2 (Post : Int32 → MS → Prop) : Nat → Int32 → MS → Prop
  | 0 => fun _ _ => False
  | n + 1 => fun x1 u => mw_twinOf_L2_S Post (mw_twinOf_L2 Post n) x1 u
/-- RaisedPressModel.twinOf()I -/
def mw_twinOf (u : MS) (Post : Int32 → MS → Prop) : Prop :=
  ∃ n, mw_twinOf_L2 Post n (0 : Int32) u
set_option maxHeartbeats 4000000 in
set_option maxRecDepth 100000 in
theorem tmw_twinOf_L140 {X : JC} {D : va_G} {dA ad : Nat → Nat} {K106 : Int32 → MS → Prop} {K114 : Int32 → Int32 → MS → Prop} {Post : Int32 → MS → Prop} {x2 : Int32} (hX : JX X yX7_twinOf.cls cX7_twinOf 4 (Option.some Jvm.ClassFile.FieldType.int) 4 91 0 0) (hK : KM D dA (jj_s X)) (hD : MD ad) (hK106 : ∀ (y1 : Int32) (u : MS), K106 y1 u → JJ X (AM ad) (jj_Q X (va_Qi Post (jm_B D dA ad) (AM ad)) 0 0 (AM ad)) 4 (MW D dA ad u) 0 0 106 [(0, .ref (ad 0)), (1, .int y1)] []) (hK114 : ∀ (y1 : Int32) (y2 : Int32) (u : MS), K114 y1 y2 u → JJ X (AM ad) (jj_Q X (va_Qi Post (jm_B D dA ad) (AM ad)) 0 0 (AM ad)) 4 (MW D dA ad u) 0 0 114 [(0, .ref (ad 0)), (1, .int y1), (2, .int y2)] []) : ∀ (n : Nat) (x1 : Int32) (x3 : Int32) (u : MS), mw_twinOf_L140 K106 K114 Post x2 n x1 x3 u → JJ X (AM ad) (jj_Q X (va_Qi Post (jm_B D dA ad) (AM ad)) 0 0 (AM ad)) 4 (MW D dA ad u) 0 0 140 [(0, .ref (ad 0)), (1, .int x1), (2, .int x2), (3, .int x3)] [] := by
  intro n
  induction n with
  | zero =>
    intro x1 x3 u h
    exact h.elim
  | succ n ih =>
    intro x1 x3 u h
    have h : mw_twinOf_L140_S K106 K114 Post x2 (mw_twinOf_L140 K106 K114 Post x2 n) x1 x3 u := h
    unfold mw_twinOf_L140_S at h
    refine jj_iload_n hX dX7_twinOf_140 3 rfl 141 rfl ?_
    refine jt_0 hX hK dX7_twinOf_141 0 rfl dX7_twinOf_142 q1484 145 rfl rfl ?_
    refine jj_iconst hX dX7_twinOf_145 ci_0 146 rfl ?_
    refine jr_1 hX hK 0 kc_0 vi_1_0 dX7_twinOf_146 147 rfl ?_
    refine jj_icmp_ge hX dX7_twinOf_147 181 150 (by decide) rfl (fun c147 => ?_) (fun c147 => ?_)
    · have h := h.1 c147
      obtain ⟨v181, e181⟩ : ∃ y : Int32, y = x2 + (1 : Int32) := ⟨_, rfl⟩
      have h := h v181 e181
      refine jj_iinc (v := v181) (lv2 := [(0, .ref (ad 0)), (1, .int x1), (2, .int v181), (3, .int x3)]) hX dX7_twinOf_181 2 rfl (by rw [e181, ci_1]) (Nat.le_of_ble_eq_true rfl) [1, 2, 0, 3] rfl 184 rfl ?_
      refine jj_goto hX dX7_twinOf_184 114 (by decide) ?_
      refine jj_sub (lv2 := [(0, .ref (ad 0)), (1, .int x1), (2, .int v181)]) [0, 1, 2] rfl ?_
      exact hK114 _ _ _ h
    · have h := h.2 c147
      refine jt_0 hX hK dX7_twinOf_150 0 rfl dX7_twinOf_151 q1484 154 rfl rfl ?_
      refine jj_bipush hX dX7_twinOf_154 cb_6 156 rfl ?_
      refine jr_1 hX hK 6 kc_6 vi_1_6 dX7_twinOf_156 157 rfl ?_
      refine jj_iload_n hX dX7_twinOf_157 3 rfl 158 rfl ?_
      refine kmw_isOut hX MW.keeps q1800 (Nat.le_of_ble_eq_true rfl) (Nat.le_of_ble_eq_true rfl) (Nat.zero_le _) (Nat.zero_le _) (Nat.le_of_ble_eq_true rfl) dX7_twinOf_158 161 rfl h (fun r158 hb158 h => ?_)
      refine jj_if_ne hX dX7_twinOf_161 175 164 (by decide) rfl (fun c161 => ?_) (fun c161 => ?_)
      · have h := h.1 c161
        obtain ⟨v175, e175⟩ : ∃ y : Int32, y = x3 + (1 : Int32) := ⟨_, rfl⟩
        have h := h v175 e175
        refine jj_iinc (v := v175) (lv2 := [(0, .ref (ad 0)), (1, .int x1), (2, .int x2), (3, .int v175)]) hX dX7_twinOf_175 3 rfl (by rw [e175, ci_1]) (Nat.le_of_ble_eq_true rfl) [1, 2, 3, 0] rfl 178 rfl ?_
        refine jj_goto hX dX7_twinOf_178 140 (by decide) ?_
        exact ih _ _ _ h
      · have h := h.2 c161
        refine jj_aload_n hX dX7_twinOf_164 0 rfl 165 rfl ?_
        refine jj_iload_n hX dX7_twinOf_165 2 rfl 166 rfl ?_
        refine jj_iload_n hX dX7_twinOf_166 3 rfl 167 rfl ?_
        refine kmw_goesOn hX hK hD q2139 (Nat.le_of_ble_eq_true rfl) (Nat.le_of_ble_eq_true rfl) (Nat.zero_le _) (Nat.zero_le _) (Nat.le_of_ble_eq_true rfl) dX7_twinOf_167 170 rfl h (fun r167 u167 hb167 h => ?_)
        refine jj_if_eq hX dX7_twinOf_170 175 173 (by decide) rfl (fun c170 => ?_) (fun c170 => ?_)
        · have h := h.1 c170
          obtain ⟨v175, e175⟩ : ∃ y : Int32, y = x3 + (1 : Int32) := ⟨_, rfl⟩
          have h := h v175 e175
          refine jj_iinc (v := v175) (lv2 := [(0, .ref (ad 0)), (1, .int x1), (2, .int x2), (3, .int v175)]) hX dX7_twinOf_175 3 rfl (by rw [e175, ci_1]) (Nat.le_of_ble_eq_true rfl) [1, 2, 3, 0] rfl 178 rfl ?_
          refine jj_goto hX dX7_twinOf_178 140 (by decide) ?_
          exact ih _ _ _ h
        · have h := h.2 c170
          refine jj_iconst hX dX7_twinOf_173 ci_1 174 rfl ?_
          refine jj_istore_n (lv2 := [(0, .ref (ad 0)), (1, .int (1 : Int32)), (2, .int x2), (3, .int x3)]) hX dX7_twinOf_174 (Nat.le_of_ble_eq_true rfl) [1, 0, 2, 3] rfl 175 rfl ?_
          obtain ⟨v175, e175⟩ : ∃ y : Int32, y = x3 + (1 : Int32) := ⟨_, rfl⟩
          have h := h v175 e175
          refine jj_iinc (v := v175) (lv2 := [(0, .ref (ad 0)), (1, .int (1 : Int32)), (2, .int x2), (3, .int v175)]) hX dX7_twinOf_175 3 rfl (by rw [e175, ci_1]) (Nat.le_of_ble_eq_true rfl) [1, 2, 3, 0] rfl 178 rfl ?_
          refine jj_goto hX dX7_twinOf_178 140 (by decide) ?_
          exact ih _ _ _ h
set_option maxHeartbeats 4000000 in
set_option maxRecDepth 100000 in
theorem tmw_twinOf_L114 {X : JC} {D : va_G} {dA ad : Nat → Nat} {K106 : Int32 → MS → Prop} {Post : Int32 → MS → Prop} (hX : JX X yX7_twinOf.cls cX7_twinOf 4 (Option.some Jvm.ClassFile.FieldType.int) 4 91 0 0) (hK : KM D dA (jj_s X)) (hD : MD ad) (hK106 : ∀ (y1 : Int32) (u : MS), K106 y1 u → JJ X (AM ad) (jj_Q X (va_Qi Post (jm_B D dA ad) (AM ad)) 0 0 (AM ad)) 4 (MW D dA ad u) 0 0 106 [(0, .ref (ad 0)), (1, .int y1)] []) : ∀ (n : Nat) (x1 : Int32) (x2 : Int32) (u : MS), mw_twinOf_L114 K106 Post n x1 x2 u → JJ X (AM ad) (jj_Q X (va_Qi Post (jm_B D dA ad) (AM ad)) 0 0 (AM ad)) 4 (MW D dA ad u) 0 0 114 [(0, .ref (ad 0)), (1, .int x1), (2, .int x2)] [] := by
  intro n
  induction n with
  | zero =>
    intro x1 x2 u h
    exact h.elim
  | succ n ih =>
    intro x1 x2 u h
    have h : mw_twinOf_L114_S K106 Post (mw_twinOf_L114 K106 Post n) x1 x2 u := h
    unfold mw_twinOf_L114_S at h
    refine jj_iload_n hX dX7_twinOf_114 2 rfl 115 rfl ?_
    refine jt_40 hX hK dX7_twinOf_115 0 rfl dX7_twinOf_116 q1524 119 rfl rfl ?_
    refine jm_alen (v := 4161) hX hK 20 (by decide) (by decide) (by decide +kernel) dX7_twinOf_119 120 rfl ?_
    refine jj_icmp_ge hX dX7_twinOf_120 187 123 (by decide) rfl (fun c120 => ?_) (fun c120 => ?_)
    · have h := h.1 c120
      refine jj_goto hX dX7_twinOf_187 106 (by decide) ?_
      refine jj_sub (lv2 := [(0, .ref (ad 0)), (1, .int x1)]) [0, 1] rfl ?_
      exact hK106 _ _ h
    · have h := h.2 c120
      refine jt_40 hX hK dX7_twinOf_123 0 rfl dX7_twinOf_124 q1524 127 rfl rfl ?_
      refine jj_iload_n hX dX7_twinOf_127 2 rfl 128 rfl ?_
      obtain ⟨hi128, h⟩ := h
      refine jr_20 hX hK _ rfl hi128 dX7_twinOf_128 129 rfl ?_
      refine jj_ldcw (v := 1000000) hX dX7_twinOf_129 q2026 132 rfl ?_
      refine jj_icmp_ne hX dX7_twinOf_132 138 135 (by decide) rfl (fun c132 => ?_) (fun c132 => ?_)
      · have h := h.1 c132
        refine jj_iconst hX dX7_twinOf_138 ci_0 139 rfl ?_
        refine jj_istore_n (lv2 := [(0, .ref (ad 0)), (1, .int x1), (2, .int x2), (3, .int (0 : Int32))]) hX dX7_twinOf_139 (Nat.le_of_ble_eq_true rfl) [1, 2, 3, 0] rfl 140 rfl ?_
        obtain ⟨n9, h⟩ := h
        exact tmw_twinOf_L140 hX hK hD hK106 ih n9 _ _ _ h
      · have h := h.2 c132
        refine jj_goto hX dX7_twinOf_135 181 (by decide) ?_
        obtain ⟨v181, e181⟩ : ∃ y : Int32, y = x2 + (1 : Int32) := ⟨_, rfl⟩
        have h := h v181 e181
        refine jj_iinc (v := v181) (lv2 := [(0, .ref (ad 0)), (1, .int x1), (2, .int v181)]) hX dX7_twinOf_181 2 rfl (by rw [e181, ci_1]) (Nat.le_of_ble_eq_true rfl) [1, 2, 0] rfl 184 rfl ?_
        refine jj_goto hX dX7_twinOf_184 114 (by decide) ?_
        exact ih _ _ _ h
set_option maxHeartbeats 4000000 in
set_option maxRecDepth 100000 in
theorem tmw_twinOf_L106 {X : JC} {D : va_G} {dA ad : Nat → Nat} {Post : Int32 → MS → Prop} (hX : JX X yX7_twinOf.cls cX7_twinOf 4 (Option.some Jvm.ClassFile.FieldType.int) 4 91 0 0) (hK : KM D dA (jj_s X)) (hD : MD ad) : ∀ (n : Nat) (x1 : Int32) (u : MS), mw_twinOf_L106 Post n x1 u → JJ X (AM ad) (jj_Q X (va_Qi Post (jm_B D dA ad) (AM ad)) 0 0 (AM ad)) 4 (MW D dA ad u) 0 0 106 [(0, .ref (ad 0)), (1, .int x1)] [] := by
  intro n
  induction n with
  | zero =>
    intro x1 u h
    exact h.elim
  | succ n ih =>
    intro x1 u h
    have h : mw_twinOf_L106_S Post (mw_twinOf_L106 Post n) x1 u := h
    unfold mw_twinOf_L106_S at h
    refine jj_iload_n hX dX7_twinOf_106 1 rfl 107 rfl ?_
    refine jj_if_eq hX dX7_twinOf_107 190 110 (by decide) rfl (fun c107 => ?_) (fun c107 => ?_)
    · have h := h.1 c107
      refine jt_40 hX hK dX7_twinOf_190 0 rfl dX7_twinOf_191 q1524 194 rfl rfl ?_
      refine jj_iconst hX dX7_twinOf_194 ci_0 195 rfl ?_
      refine jr_20 hX hK 0 kc_0 vi_20_0 dX7_twinOf_195 196 rfl ?_
      exact jj_reti (post := Post) (u := u) hX dX7_twinOf_196 (Nat.le_refl 0) (Nat.le_refl 0) jm_hB h
    · have h := h.2 c107
      refine jj_iconst hX dX7_twinOf_110 ci_0 111 rfl ?_
      refine jj_istore_n (lv2 := [(0, .ref (ad 0)), (1, .int (0 : Int32))]) hX dX7_twinOf_111 (Nat.le_of_ble_eq_true rfl) [1, 0] rfl 112 rfl ?_
      refine jj_iconst hX dX7_twinOf_112 ci_1 113 rfl ?_
      refine jj_istore_n (lv2 := [(0, .ref (ad 0)), (1, .int (0 : Int32)), (2, .int (1 : Int32))]) hX dX7_twinOf_113 (Nat.le_of_ble_eq_true rfl) [1, 2, 0] rfl 114 rfl ?_
      obtain ⟨n9, h⟩ := h
      exact tmw_twinOf_L114 hX hK hD ih n9 _ _ _ h
set_option maxHeartbeats 4000000 in
set_option maxRecDepth 100000 in
theorem tmw_twinOf_L42 {X : JC} {D : va_G} {dA ad : Nat → Nat} {K30 : Int32 → Int32 → MS → Prop} {Post : Int32 → MS → Prop} {x2 : Int32} (hX : JX X yX7_twinOf.cls cX7_twinOf 4 (Option.some Jvm.ClassFile.FieldType.int) 4 91 0 0) (hK : KM D dA (jj_s X)) (hD : MD ad) (hK30 : ∀ (y1 : Int32) (y2 : Int32) (u : MS), K30 y1 y2 u → JJ X (AM ad) (jj_Q X (va_Qi Post (jm_B D dA ad) (AM ad)) 0 0 (AM ad)) 4 (MW D dA ad u) 0 0 30 [(0, .ref (ad 0)), (1, .int y1), (2, .int y2)] []) : ∀ (n : Nat) (x1 : Int32) (x3 : Int32) (u : MS), mw_twinOf_L42 K30 Post x2 n x1 x3 u → JJ X (AM ad) (jj_Q X (va_Qi Post (jm_B D dA ad) (AM ad)) 0 0 (AM ad)) 4 (MW D dA ad u) 0 0 42 [(0, .ref (ad 0)), (1, .int x1), (2, .int x2), (3, .int x3)] [] := by
  intro n
  induction n with
  | zero =>
    intro x1 x3 u h
    exact h.elim
  | succ n ih =>
    intro x1 x3 u h
    have h : mw_twinOf_L42_S K30 Post x2 (mw_twinOf_L42 K30 Post x2 n) x1 x3 u := h
    unfold mw_twinOf_L42_S at h
    refine jj_iload_n hX dX7_twinOf_42 3 rfl 43 rfl ?_
    refine jt_0 hX hK dX7_twinOf_43 0 rfl dX7_twinOf_44 q1484 47 rfl rfl ?_
    refine jj_iconst hX dX7_twinOf_47 ci_0 48 rfl ?_
    refine jr_1 hX hK 0 kc_0 vi_1_0 dX7_twinOf_48 49 rfl ?_
    refine jj_icmp_ge hX dX7_twinOf_49 100 52 (by decide) rfl (fun c49 => ?_) (fun c49 => ?_)
    · have h := h.1 c49
      obtain ⟨v100, e100⟩ : ∃ y : Int32, y = x2 + (1 : Int32) := ⟨_, rfl⟩
      have h := h v100 e100
      refine jj_iinc (v := v100) (lv2 := [(0, .ref (ad 0)), (1, .int x1), (2, .int v100), (3, .int x3)]) hX dX7_twinOf_100 2 rfl (by rw [e100, ci_1]) (Nat.le_of_ble_eq_true rfl) [1, 2, 0, 3] rfl 103 rfl ?_
      refine jj_goto hX dX7_twinOf_103 30 (by decide) ?_
      refine jj_sub (lv2 := [(0, .ref (ad 0)), (1, .int x1), (2, .int v100)]) [0, 1, 2] rfl ?_
      exact hK30 _ _ _ h
    · have h := h.2 c49
      refine jj_aload_n hX dX7_twinOf_52 0 rfl 53 rfl ?_
      refine jj_iload_n hX dX7_twinOf_53 2 rfl 54 rfl ?_
      refine jj_iload_n hX dX7_twinOf_54 3 rfl 55 rfl ?_
      refine kmw_areIn hX hK hD q2103 (Nat.le_of_ble_eq_true rfl) (Nat.le_of_ble_eq_true rfl) (Nat.zero_le _) (Nat.zero_le _) (Nat.le_of_ble_eq_true rfl) dX7_twinOf_55 58 rfl h (fun r55 u55 hb55 h => ?_)
      refine jj_if_eq hX dX7_twinOf_58 94 61 (by decide) rfl (fun c58 => ?_) (fun c58 => ?_)
      · have h := h.1 c58
        obtain ⟨v94, e94⟩ : ∃ y : Int32, y = x3 + (1 : Int32) := ⟨_, rfl⟩
        have h := h v94 e94
        refine jj_iinc (v := v94) (lv2 := [(0, .ref (ad 0)), (1, .int x1), (2, .int x2), (3, .int v94)]) hX dX7_twinOf_94 3 rfl (by rw [e94, ci_1]) (Nat.le_of_ble_eq_true rfl) [1, 2, 3, 0] rfl 97 rfl ?_
        refine jj_goto hX dX7_twinOf_97 42 (by decide) ?_
        exact ih _ _ _ h
      · have h := h.2 c58
        refine jj_aload_n hX dX7_twinOf_61 0 rfl 62 rfl ?_
        refine jj_iload_n hX dX7_twinOf_62 2 rfl 63 rfl ?_
        refine jj_iload_n hX dX7_twinOf_63 3 rfl 64 rfl ?_
        refine kmw_doClash hX hK hD q2107 (Nat.le_of_ble_eq_true rfl) (Nat.le_of_ble_eq_true rfl) (Nat.zero_le _) (Nat.zero_le _) (Nat.le_of_ble_eq_true rfl) dX7_twinOf_64 67 rfl h (fun r64 u64 hb64 h => ?_)
        refine jj_if_eq hX dX7_twinOf_67 94 70 (by decide) rfl (fun c67 => ?_) (fun c67 => ?_)
        · have h := h.1 c67
          obtain ⟨v94, e94⟩ : ∃ y : Int32, y = x3 + (1 : Int32) := ⟨_, rfl⟩
          have h := h v94 e94
          refine jj_iinc (v := v94) (lv2 := [(0, .ref (ad 0)), (1, .int x1), (2, .int x2), (3, .int v94)]) hX dX7_twinOf_94 3 rfl (by rw [e94, ci_1]) (Nat.le_of_ble_eq_true rfl) [1, 2, 3, 0] rfl 97 rfl ?_
          refine jj_goto hX dX7_twinOf_97 42 (by decide) ?_
          exact ih _ _ _ h
        · have h := h.2 c67
          refine jj_aload_n hX dX7_twinOf_70 0 rfl 71 rfl ?_
          refine jj_aload_n hX dX7_twinOf_71 0 rfl 72 rfl ?_
          refine jj_iload_n hX dX7_twinOf_72 3 rfl 73 rfl ?_
          refine jj_aload_n hX dX7_twinOf_73 0 rfl 74 rfl ?_
          refine jj_iload_n hX dX7_twinOf_74 2 rfl 75 rfl ?_
          refine kmw_cellsOf hX hK hD q1848 (Nat.le_of_ble_eq_true rfl) (Nat.le_of_ble_eq_true rfl) (Nat.zero_le _) (Nat.zero_le _) (Nat.le_of_ble_eq_true rfl) dX7_twinOf_75 78 rfl h (fun r75 u75 h => ?_)
          refine kmw_overOf hX hK hD q2131 (Nat.le_of_ble_eq_true rfl) (Nat.le_of_ble_eq_true rfl) (Nat.zero_le _) (Nat.zero_le _) (Nat.le_of_ble_eq_true rfl) dX7_twinOf_78 81 rfl h (fun r78 u78 h => ?_)
          refine jj_aload_n hX dX7_twinOf_81 0 rfl 82 rfl ?_
          refine jj_iload_n hX dX7_twinOf_82 3 rfl 83 rfl ?_
          refine kmw_cellsOf hX hK hD q1848 (Nat.le_of_ble_eq_true rfl) (Nat.le_of_ble_eq_true rfl) (Nat.zero_le _) (Nat.zero_le _) (Nat.le_of_ble_eq_true rfl) dX7_twinOf_83 86 rfl h (fun r83 u83 h => ?_)
          refine kmw_comesTo hX hK hD q2135 (Nat.le_of_ble_eq_true rfl) (Nat.le_of_ble_eq_true rfl) (Nat.zero_le _) (Nat.zero_le _) (Nat.le_of_ble_eq_true rfl) dX7_twinOf_86 89 rfl h (fun r86 u86 hb86 h => ?_)
          refine jj_if_eq hX dX7_twinOf_89 94 92 (by decide) rfl (fun c89 => ?_) (fun c89 => ?_)
          · have h := h.1 c89
            obtain ⟨v94, e94⟩ : ∃ y : Int32, y = x3 + (1 : Int32) := ⟨_, rfl⟩
            have h := h v94 e94
            refine jj_iinc (v := v94) (lv2 := [(0, .ref (ad 0)), (1, .int x1), (2, .int x2), (3, .int v94)]) hX dX7_twinOf_94 3 rfl (by rw [e94, ci_1]) (Nat.le_of_ble_eq_true rfl) [1, 2, 3, 0] rfl 97 rfl ?_
            refine jj_goto hX dX7_twinOf_97 42 (by decide) ?_
            exact ih _ _ _ h
          · have h := h.2 c89
            refine jj_iconst hX dX7_twinOf_92 ci_1 93 rfl ?_
            refine jj_istore_n (lv2 := [(0, .ref (ad 0)), (1, .int (1 : Int32)), (2, .int x2), (3, .int x3)]) hX dX7_twinOf_93 (Nat.le_of_ble_eq_true rfl) [1, 0, 2, 3] rfl 94 rfl ?_
            obtain ⟨v94, e94⟩ : ∃ y : Int32, y = x3 + (1 : Int32) := ⟨_, rfl⟩
            have h := h v94 e94
            refine jj_iinc (v := v94) (lv2 := [(0, .ref (ad 0)), (1, .int (1 : Int32)), (2, .int x2), (3, .int v94)]) hX dX7_twinOf_94 3 rfl (by rw [e94, ci_1]) (Nat.le_of_ble_eq_true rfl) [1, 2, 3, 0] rfl 97 rfl ?_
            refine jj_goto hX dX7_twinOf_97 42 (by decide) ?_
            exact ih _ _ _ h
set_option maxHeartbeats 4000000 in
set_option maxRecDepth 100000 in
theorem tmw_twinOf_L30 {X : JC} {D : va_G} {dA ad : Nat → Nat} {Post : Int32 → MS → Prop} (hX : JX X yX7_twinOf.cls cX7_twinOf 4 (Option.some Jvm.ClassFile.FieldType.int) 4 91 0 0) (hK : KM D dA (jj_s X)) (hD : MD ad) : ∀ (n : Nat) (x1 : Int32) (x2 : Int32) (u : MS), mw_twinOf_L30 Post n x1 x2 u → JJ X (AM ad) (jj_Q X (va_Qi Post (jm_B D dA ad) (AM ad)) 0 0 (AM ad)) 4 (MW D dA ad u) 0 0 30 [(0, .ref (ad 0)), (1, .int x1), (2, .int x2)] [] := by
  intro n
  induction n with
  | zero =>
    intro x1 x2 u h
    exact h.elim
  | succ n ih =>
    intro x1 x2 u h
    have h : mw_twinOf_L30_S Post (mw_twinOf_L30 Post n) x1 x2 u := h
    unfold mw_twinOf_L30_S at h
    refine jj_iload_n hX dX7_twinOf_30 2 rfl 31 rfl ?_
    refine jt_0 hX hK dX7_twinOf_31 0 rfl dX7_twinOf_32 q1484 35 rfl rfl ?_
    refine jj_iconst hX dX7_twinOf_35 ci_0 36 rfl ?_
    refine jr_1 hX hK 0 kc_0 vi_1_0 dX7_twinOf_36 37 rfl ?_
    refine jj_icmp_ge hX dX7_twinOf_37 106 40 (by decide) rfl (fun c37 => ?_) (fun c37 => ?_)
    · have h := h.1 c37
      obtain ⟨n9, h⟩ := h
      refine jj_sub (lv2 := [(0, .ref (ad 0)), (1, .int x1)]) [0, 1] rfl ?_
      exact tmw_twinOf_L106 hX hK hD n9 _ _ h
    · have h := h.2 c37
      refine jj_iconst hX dX7_twinOf_40 ci_0 41 rfl ?_
      refine jj_istore_n (lv2 := [(0, .ref (ad 0)), (1, .int x1), (2, .int x2), (3, .int (0 : Int32))]) hX dX7_twinOf_41 (Nat.le_of_ble_eq_true rfl) [1, 2, 3, 0] rfl 42 rfl ?_
      obtain ⟨n9, h⟩ := h
      exact tmw_twinOf_L42 hX hK hD ih n9 _ _ _ h
set_option maxHeartbeats 4000000 in
set_option maxRecDepth 100000 in
theorem tmw_twinOf_L2 {X : JC} {D : va_G} {dA ad : Nat → Nat} {Post : Int32 → MS → Prop} (hX : JX X yX7_twinOf.cls cX7_twinOf 4 (Option.some Jvm.ClassFile.FieldType.int) 4 91 0 0) (hK : KM D dA (jj_s X)) (hD : MD ad) : ∀ (n : Nat) (x1 : Int32) (u : MS), mw_twinOf_L2 Post n x1 u → JJ X (AM ad) (jj_Q X (va_Qi Post (jm_B D dA ad) (AM ad)) 0 0 (AM ad)) 4 (MW D dA ad u) 0 0 2 [(0, .ref (ad 0)), (1, .int x1)] [] := by
  intro n
  induction n with
  | zero =>
    intro x1 u h
    exact h.elim
  | succ n ih =>
    intro x1 u h
    have h : mw_twinOf_L2_S Post (mw_twinOf_L2 Post n) x1 u := h
    unfold mw_twinOf_L2_S at h
    refine jj_iload_n hX dX7_twinOf_2 1 rfl 3 rfl ?_
    refine jt_40 hX hK dX7_twinOf_3 0 rfl dX7_twinOf_4 q1524 7 rfl rfl ?_
    refine jm_alen (v := 4161) hX hK 20 (by decide) (by decide) (by decide +kernel) dX7_twinOf_7 8 rfl ?_
    refine jj_icmp_ge hX dX7_twinOf_8 26 11 (by decide) rfl (fun c8 => ?_) (fun c8 => ?_)
    · have h := h.1 c8
      refine jj_iconst hX dX7_twinOf_26 ci_0 27 rfl ?_
      refine jj_istore_n (lv2 := [(0, .ref (ad 0)), (1, .int (0 : Int32))]) hX dX7_twinOf_27 (Nat.le_of_ble_eq_true rfl) [1, 0] rfl 28 rfl ?_
      refine jj_iconst hX dX7_twinOf_28 ci_0 29 rfl ?_
      refine jj_istore_n (lv2 := [(0, .ref (ad 0)), (1, .int (0 : Int32)), (2, .int (0 : Int32))]) hX dX7_twinOf_29 (Nat.le_of_ble_eq_true rfl) [1, 2, 0] rfl 30 rfl ?_
      obtain ⟨n9, h⟩ := h
      exact tmw_twinOf_L30 hX hK hD n9 _ _ _ h
    · have h := h.2 c8
      refine jt_40 hX hK dX7_twinOf_11 0 rfl dX7_twinOf_12 q1524 15 rfl rfl ?_
      refine jj_iload_n hX dX7_twinOf_15 1 rfl 16 rfl ?_
      refine jj_ldcw (v := 1000000) hX dX7_twinOf_16 q2026 19 rfl ?_
      obtain ⟨hi19, h⟩ := h
      refine jw_20 hX hK hD _ rfl hi19 dX7_twinOf_19 20 rfl (fun u19 e19 => ?_)
      have h := h u19 e19
      obtain ⟨v20, e20⟩ : ∃ y : Int32, y = x1 + (1 : Int32) := ⟨_, rfl⟩
      have h := h v20 e20
      refine jj_iinc (v := v20) (lv2 := [(0, .ref (ad 0)), (1, .int v20)]) hX dX7_twinOf_20 1 rfl (by rw [e20, ci_1]) (Nat.le_of_ble_eq_true rfl) [1, 0] rfl 23 rfl ?_
      refine jj_goto hX dX7_twinOf_23 2 (by decide) ?_
      exact ih _ _ h
set_option maxHeartbeats 4000000 in
set_option maxRecDepth 100000 in
theorem mmw_twinOf (l : Launch) (D : va_G) (dA ad : Nat → Nat) (hD : MD ad) (u : MS) (Post : Int32 → MS → Prop) (h : mw_twinOf  u Post) : Met l yX7_twinOf (ws_ yX7_twinOf cX7_twinOf 4 (Option.some Jvm.ClassFile.FieldType.int)) (jm_rm 4 91) (jm_Pc D dA ad u []) (va_Qi Post (jm_B D dA ad) (AM ad)) 0 0 (AM ad) := by
  refine jm_start [] [(0, .ref (ad 0))] (by decide) (Nat.le_of_ble_eq_true rfl) rfl (fun X hX hK => ?_)
  unfold mw_twinOf at h
  refine jj_iconst hX dX7_twinOf_0 ci_0 1 rfl ?_
  refine jj_istore_n (lv2 := [(0, .ref (ad 0)), (1, .int (0 : Int32))]) hX dX7_twinOf_1 (Nat.le_of_ble_eq_true rfl) [1, 0] rfl 2 rfl ?_
  obtain ⟨n9, h⟩ := h
  exact tmw_twinOf_L2 hX hK hD n9 _ _ h
theorem hd_mw_twinOf : yX7_twinOf.cls = RX7 ∧ yX7_twinOf.cls ≠ "java/lang/invoke/MethodHandle" ∧ yX7_twinOf.cls ≠ "java/lang/invoke/VarHandle" ∧ (parseMethodDescriptor yX7_twinOf.desc).map (fun d => d.parameters.length) = some 0 := by decide +kernel
theorem kmw_twinOf {X : JC} {Q : State → Prop} {nL k n pc : Nat} {lv : List (Nat × Value)} {st : List Value} {own : String} {cc : ByteArray} {ret : Option FieldType} {F LL mc ms ix : Nat} {D : va_G} {dA ad : Nat → Nat} {u : MS} {Post : Int32 → MS → Prop} (hX : JX X own cc nL ret F LL mc ms) (hK : KM D dA (jj_s X)) (hD : MD ad) (hlk : (Cond.methodLink own ix yX7_twinOf) ∈ lw_all) (hF : 4 + 1 ≤ F) (hL : 8 + (4 + 11) + 91 ≤ LL) (hk : k ≤ mc) (hk2 : n ≤ ms) (hw : (st.map fun v => v.category).sum ≤ 8) (d : decode cc pc = .ok (.invokevirtual ix, 3)) (q : Nat) (hq : pc + 3 = q) (h : mw_twinOf  u Post) (kk : ∀ (r : Int32) (u2 : MS), Post r u2 → JJ X (AM ad) Q nL (MW D dA ad u2) k n q lv (.int r :: st)) : JJ X (AM ad) Q nL (MW D dA ad u) k n pc lv (.ref (ad 0) :: st) :=
  jm_calli (na := 0) (As := []) hX hK (mmw_twinOf (jj_l X) D dA ad hD  u Post h) hlk q2129 qs111 q129 q2130 hd_mw_twinOf rfl rfl hw hF hL hk hk2 d q hq kk
/-- RaisedPressModel.clear()I -/
def mw_clear (u : MS) (Post : Int32 → MS → Prop) : Prop :=
  mw_twinOf u (fun r2 u2 =>
    (¬ r2 = (1000000 : Int32) →
      mw_gives (0 : Int32) u2 (fun r16 u16 =>
        Post r16 u16)) ∧
    (r2 = (1000000 : Int32) →
      mw_gives (1 : Int32) u2 (fun r16 u16 =>
        Post r16 u16)))
set_option maxHeartbeats 4000000 in
set_option maxRecDepth 100000 in
theorem mmw_clear (l : Launch) (D : va_G) (dA ad : Nat → Nat) (hD : MD ad) (u : MS) (Post : Int32 → MS → Prop) (h : mw_clear  u Post) : Met l yX7_clear (ws_ yX7_clear cX7_clear 1 (Option.some Jvm.ClassFile.FieldType.int)) (jm_rm 5 114) (jm_Pc D dA ad u []) (va_Qi Post (jm_B D dA ad) (AM ad)) 0 0 (AM ad) := by
  refine jm_start [] [(0, .ref (ad 0))] (by decide) (Nat.le_of_ble_eq_true rfl) rfl (fun X hX hK => ?_)
  unfold mw_clear at h
  refine jj_aload_n hX dX7_clear_0 0 rfl 1 rfl ?_
  refine jj_aload_n hX dX7_clear_1 0 rfl 2 rfl ?_
  refine kmw_twinOf hX hK hD q2127 (Nat.le_of_ble_eq_true rfl) (Nat.le_of_ble_eq_true rfl) (Nat.zero_le _) (Nat.zero_le _) (Nat.le_of_ble_eq_true rfl) dX7_clear_2 5 rfl h (fun r2 u2 h => ?_)
  refine jj_ldcw (v := 1000000) hX dX7_clear_5 q2026 8 rfl ?_
  refine jj_icmp_ne hX dX7_clear_8 15 11 (by decide) rfl (fun c8 => ?_) (fun c8 => ?_)
  · have h := h.1 c8
    refine jj_iconst hX dX7_clear_15 ci_0 16 rfl ?_
    refine kmw_gives hX hK hD q1752 (Nat.le_of_ble_eq_true rfl) (Nat.le_of_ble_eq_true rfl) (Nat.zero_le _) (Nat.zero_le _) (Nat.le_of_ble_eq_true rfl) dX7_clear_16 19 rfl h (fun r16 u16 h => ?_)
    exact jj_reti (post := Post) (u := u16) hX dX7_clear_19 (Nat.le_refl 0) (Nat.le_refl 0) jm_hB h
  · have h := h.2 c8
    refine jj_iconst hX dX7_clear_11 ci_1 12 rfl ?_
    refine jj_goto hX dX7_clear_12 16 (by decide) ?_
    refine kmw_gives hX hK hD q1752 (Nat.le_of_ble_eq_true rfl) (Nat.le_of_ble_eq_true rfl) (Nat.zero_le _) (Nat.zero_le _) (Nat.le_of_ble_eq_true rfl) dX7_clear_16 19 rfl h (fun r16 u16 h => ?_)
    exact jj_reti (post := Post) (u := u16) hX dX7_clear_19 (Nat.le_refl 0) (Nat.le_refl 0) jm_hB h
theorem hd_mw_clear : yX7_clear.cls = RX7 ∧ yX7_clear.cls ≠ "java/lang/invoke/MethodHandle" ∧ yX7_clear.cls ≠ "java/lang/invoke/VarHandle" ∧ (parseMethodDescriptor yX7_clear.desc).map (fun d => d.parameters.length) = some 0 := by decide +kernel
theorem kmw_clear {X : JC} {Q : State → Prop} {nL k n pc : Nat} {lv : List (Nat × Value)} {st : List Value} {own : String} {cc : ByteArray} {ret : Option FieldType} {F LL mc ms ix : Nat} {D : va_G} {dA ad : Nat → Nat} {u : MS} {Post : Int32 → MS → Prop} (hX : JX X own cc nL ret F LL mc ms) (hK : KM D dA (jj_s X)) (hD : MD ad) (hlk : (Cond.methodLink own ix yX7_clear) ∈ lw_all) (hF : 5 + 1 ≤ F) (hL : 8 + (1 + 11) + 114 ≤ LL) (hk : k ≤ mc) (hk2 : n ≤ ms) (hw : (st.map fun v => v.category).sum ≤ 8) (d : decode cc pc = .ok (.invokevirtual ix, 3)) (q : Nat) (hq : pc + 3 = q) (h : mw_clear  u Post) (kk : ∀ (r : Int32) (u2 : MS), Post r u2 → JJ X (AM ad) Q nL (MW D dA ad u2) k n q lv (.int r :: st)) : JJ X (AM ad) Q nL (MW D dA ad u) k n pc lv (.ref (ad 0) :: st) :=
  jm_calli (na := 0) (As := []) hX hK (mmw_clear (jj_l X) D dA ad hD  u Post h) hlk q2124 q2125 q129 q2126 hd_mw_clear rfl rfl hw hF hL hk hk2 d q hq kk
/-- RaisedPressModel.twin()I -/
def mw_twin (u : MS) (Post : Int32 → MS → Prop) : Prop :=
  mw_twinOf u (fun r1 u1 =>
    (¬ r1 = (1000000 : Int32) →
      mw_gives r1 u1 (fun r23 u23 =>
        Post r23 u23)) ∧
    (r1 = (1000000 : Int32) →
      mw_refuse (6 : Int32) u1 (fun r15 u15 =>
        Post r15 u15)))
set_option maxHeartbeats 4000000 in
set_option maxRecDepth 100000 in
theorem mmw_twin (l : Launch) (D : va_G) (dA ad : Nat → Nat) (hD : MD ad) (u : MS) (Post : Int32 → MS → Prop) (h : mw_twin  u Post) : Met l yX7_twin (ws_ yX7_twin cX7_twin 2 (Option.some Jvm.ClassFile.FieldType.int)) (jm_rm 5 114) (jm_Pc D dA ad u []) (va_Qi Post (jm_B D dA ad) (AM ad)) 0 0 (AM ad) := by
  refine jm_start [] [(0, .ref (ad 0))] (by decide) (Nat.le_of_ble_eq_true rfl) rfl (fun X hX hK => ?_)
  unfold mw_twin at h
  refine jj_aload_n hX dX7_twin_0 0 rfl 1 rfl ?_
  refine kmw_twinOf hX hK hD q2127 (Nat.le_of_ble_eq_true rfl) (Nat.le_of_ble_eq_true rfl) (Nat.zero_le _) (Nat.zero_le _) (Nat.le_of_ble_eq_true rfl) dX7_twin_1 4 rfl h (fun r1 u1 h => ?_)
  refine jj_istore_n (lv2 := [(0, .ref (ad 0)), (1, .int r1)]) hX dX7_twin_4 (Nat.le_of_ble_eq_true rfl) [1, 0] rfl 5 rfl ?_
  refine jj_iload_n hX dX7_twin_5 1 rfl 6 rfl ?_
  refine jj_ldcw (v := 1000000) hX dX7_twin_6 q2026 9 rfl ?_
  refine jj_icmp_ne hX dX7_twin_9 21 12 (by decide) rfl (fun c9 => ?_) (fun c9 => ?_)
  · have h := h.1 c9
    refine jj_aload_n hX dX7_twin_21 0 rfl 22 rfl ?_
    refine jj_iload_n hX dX7_twin_22 1 rfl 23 rfl ?_
    refine kmw_gives hX hK hD q1752 (Nat.le_of_ble_eq_true rfl) (Nat.le_of_ble_eq_true rfl) (Nat.zero_le _) (Nat.zero_le _) (Nat.le_of_ble_eq_true rfl) dX7_twin_23 26 rfl h (fun r23 u23 h => ?_)
    exact jj_reti (post := Post) (u := u23) hX dX7_twin_26 (Nat.le_refl 0) (Nat.le_refl 0) jm_hB h
  · have h := h.2 c9
    refine jj_aload_n hX dX7_twin_12 0 rfl 13 rfl ?_
    refine jj_bipush hX dX7_twin_13 cb_6 15 rfl ?_
    refine kmw_refuse hX hK hD q1702 (Nat.le_of_ble_eq_true rfl) (Nat.le_of_ble_eq_true rfl) (Nat.zero_le _) (Nat.zero_le _) (Nat.le_of_ble_eq_true rfl) dX7_twin_15 18 rfl h (fun r15 u15 h => ?_)
    refine jj_goto hX dX7_twin_18 26 (by decide) ?_
    exact jj_reti (post := Post) (u := u15) hX dX7_twin_26 (Nat.le_refl 0) (Nat.le_refl 0) jm_hB h
theorem hd_mw_twin : yX7_twin.cls = RX7 ∧ yX7_twin.cls ≠ "java/lang/invoke/MethodHandle" ∧ yX7_twin.cls ≠ "java/lang/invoke/VarHandle" ∧ (parseMethodDescriptor yX7_twin.desc).map (fun d => d.parameters.length) = some 0 := by decide +kernel
theorem kmw_twin {X : JC} {Q : State → Prop} {nL k n pc : Nat} {lv : List (Nat × Value)} {st : List Value} {own : String} {cc : ByteArray} {ret : Option FieldType} {F LL mc ms ix : Nat} {D : va_G} {dA ad : Nat → Nat} {u : MS} {Post : Int32 → MS → Prop} (hX : JX X own cc nL ret F LL mc ms) (hK : KM D dA (jj_s X)) (hD : MD ad) (hlk : (Cond.methodLink own ix yX7_twin) ∈ lw_all) (hF : 5 + 1 ≤ F) (hL : 8 + (2 + 11) + 114 ≤ LL) (hk : k ≤ mc) (hk2 : n ≤ ms) (hw : (st.map fun v => v.category).sum ≤ 8) (d : decode cc pc = .ok (.invokevirtual ix, 3)) (q : Nat) (hq : pc + 3 = q) (h : mw_twin  u Post) (kk : ∀ (r : Int32) (u2 : MS), Post r u2 → JJ X (AM ad) Q nL (MW D dA ad u2) k n q lv (.int r :: st)) : JJ X (AM ad) Q nL (MW D dA ad u) k n pc lv (.ref (ad 0) :: st) :=
  jm_calli (na := 0) (As := []) hX hK (mmw_twin (jj_l X) D dA ad hD  u Post h) hlk q2150 q2151 q129 q2152 hd_mw_twin rfl rfl hw hF hL hk hk2 d q hq kk
def mw_lacks_L4_S (Post : Int32 → MS → Prop) (R : Int32 → Int32 → MS → Prop) (x1 : Int32) (x2 : Int32) (u : MS) : Prop :=
  ((26 : Int32) < x2 →
    mw_gives x1 u (fun r46 u46 =>
      Post r46 u46)) ∧
  (¬ (26 : Int32) < x2 →
    mw_justOf x2 (jm_i u 1 6) u (fun r20 u20 =>
      (¬ r20 = (-1 : Int32) →
        ∀ v37 : Int32, v37 = (x1 ||| (0 : Int32)) →
        ∀ v38 : Int32, v38 = x2 + (1 : Int32) →
        R v37 v38 u20) ∧
      (r20 = (-1 : Int32) →
        ∀ v37 : Int32, v37 = (x1 ||| ((1 : Int32) <<< ((x2 - (1 : Int32)) &&& 31))) →
        ∀ v38 : Int32, v38 = x2 + (1 : Int32) →
        R v37 v38 u20)))
def mw_lacks_L4 (Post : Int32 → MS → Prop) : Nat → Int32 → Int32 → MS → Prop
  | 0 => fun _ _ _ => False
  | n + 1 => fun x1 x2 u => mw_lacks_L4_S Post (mw_lacks_L4 Post n) x1 x2 u
/-- RaisedPressModel.lacks()I -/
def mw_lacks (u : MS) (Post : Int32 → MS → Prop) : Prop :=
  ∃ n, mw_lacks_L4 Post n (0 : Int32) (1 : Int32) u
set_option maxHeartbeats 4000000 in
set_option maxRecDepth 100000 in
theorem tmw_lacks_L4 {X : JC} {D : va_G} {dA ad : Nat → Nat} {Post : Int32 → MS → Prop} (hX : JX X yX7_lacks.cls cX7_lacks 3 (Option.some Jvm.ClassFile.FieldType.int) 2 45 0 0) (hK : KM D dA (jj_s X)) (hD : MD ad) : ∀ (n : Nat) (x1 : Int32) (x2 : Int32) (u : MS), mw_lacks_L4 Post n x1 x2 u → JJ X (AM ad) (jj_Q X (va_Qi Post (jm_B D dA ad) (AM ad)) 0 0 (AM ad)) 3 (MW D dA ad u) 0 0 4 [(0, .ref (ad 0)), (1, .int x1), (2, .int x2)] [] := by
  intro n
  induction n with
  | zero =>
    intro x1 x2 u h
    exact h.elim
  | succ n ih =>
    intro x1 x2 u h
    have h : mw_lacks_L4_S Post (mw_lacks_L4 Post n) x1 x2 u := h
    unfold mw_lacks_L4_S at h
    refine jj_iload_n hX dX7_lacks_4 2 rfl 5 rfl ?_
    refine jj_bipush hX dX7_lacks_5 cb_26 7 rfl ?_
    refine jj_icmp_gt hX dX7_lacks_7 44 10 (by decide) rfl (fun c7 => ?_) (fun c7 => ?_)
    · have h := h.1 c7
      refine jj_aload_n hX dX7_lacks_44 0 rfl 45 rfl ?_
      refine jj_iload_n hX dX7_lacks_45 1 rfl 46 rfl ?_
      refine kmw_gives hX hK hD q1752 (Nat.le_of_ble_eq_true rfl) (Nat.le_of_ble_eq_true rfl) (Nat.zero_le _) (Nat.zero_le _) (Nat.le_of_ble_eq_true rfl) dX7_lacks_46 49 rfl h (fun r46 u46 h => ?_)
      exact jj_reti (post := Post) (u := u46) hX dX7_lacks_49 (Nat.le_refl 0) (Nat.le_refl 0) jm_hB h
    · have h := h.2 c7
      refine jj_iload_n hX dX7_lacks_10 1 rfl 11 rfl ?_
      refine jj_aload_n hX dX7_lacks_11 0 rfl 12 rfl ?_
      refine jj_iload_n hX dX7_lacks_12 2 rfl 13 rfl ?_
      refine jt_0 hX hK dX7_lacks_13 0 rfl dX7_lacks_14 q1484 17 rfl rfl ?_
      refine jj_bipush hX dX7_lacks_17 cb_6 19 rfl ?_
      refine jr_1 hX hK 6 kc_6 vi_1_6 dX7_lacks_19 20 rfl ?_
      refine kmw_justOf hX hK hD q1820 (Nat.le_of_ble_eq_true rfl) (Nat.le_of_ble_eq_true rfl) (Nat.zero_le _) (Nat.zero_le _) (Nat.le_of_ble_eq_true rfl) dX7_lacks_20 23 rfl h (fun r20 u20 h => ?_)
      refine jj_iconst hX dX7_lacks_23 ci_m1 24 rfl ?_
      refine jj_icmp_ne hX dX7_lacks_24 35 27 (by decide) rfl (fun c24 => ?_) (fun c24 => ?_)
      · have h := h.1 c24
        refine jj_iconst hX dX7_lacks_35 ci_0 36 rfl ?_
        refine jj_ior hX dX7_lacks_36 37 rfl ?_
        refine jj_topi (fun v37 e37 => ?_)
        have h := h v37 e37
        refine jj_istore_n (lv2 := [(0, .ref (ad 0)), (1, .int v37), (2, .int x2)]) hX dX7_lacks_37 (Nat.le_of_ble_eq_true rfl) [1, 0, 2] rfl 38 rfl ?_
        obtain ⟨v38, e38⟩ : ∃ y : Int32, y = x2 + (1 : Int32) := ⟨_, rfl⟩
        have h := h v38 e38
        refine jj_iinc (v := v38) (lv2 := [(0, .ref (ad 0)), (1, .int v37), (2, .int v38)]) hX dX7_lacks_38 2 rfl (by rw [e38, ci_1]) (Nat.le_of_ble_eq_true rfl) [1, 2, 0] rfl 41 rfl ?_
        refine jj_goto hX dX7_lacks_41 4 (by decide) ?_
        exact ih _ _ _ h
      · have h := h.2 c24
        refine jj_iconst hX dX7_lacks_27 ci_1 28 rfl ?_
        refine jj_iload_n hX dX7_lacks_28 2 rfl 29 rfl ?_
        refine jj_iconst hX dX7_lacks_29 ci_1 30 rfl ?_
        refine jj_isub hX dX7_lacks_30 31 rfl ?_
        refine jj_ishl hX dX7_lacks_31 32 rfl ?_
        refine jj_goto hX dX7_lacks_32 36 (by decide) ?_
        refine jj_ior hX dX7_lacks_36 37 rfl ?_
        refine jj_topi (fun v37 e37 => ?_)
        have h := h v37 e37
        refine jj_istore_n (lv2 := [(0, .ref (ad 0)), (1, .int v37), (2, .int x2)]) hX dX7_lacks_37 (Nat.le_of_ble_eq_true rfl) [1, 0, 2] rfl 38 rfl ?_
        obtain ⟨v38, e38⟩ : ∃ y : Int32, y = x2 + (1 : Int32) := ⟨_, rfl⟩
        have h := h v38 e38
        refine jj_iinc (v := v38) (lv2 := [(0, .ref (ad 0)), (1, .int v37), (2, .int v38)]) hX dX7_lacks_38 2 rfl (by rw [e38, ci_1]) (Nat.le_of_ble_eq_true rfl) [1, 2, 0] rfl 41 rfl ?_
        refine jj_goto hX dX7_lacks_41 4 (by decide) ?_
        exact ih _ _ _ h
set_option maxHeartbeats 4000000 in
set_option maxRecDepth 100000 in
theorem mmw_lacks (l : Launch) (D : va_G) (dA ad : Nat → Nat) (hD : MD ad) (u : MS) (Post : Int32 → MS → Prop) (h : mw_lacks  u Post) : Met l yX7_lacks (ws_ yX7_lacks cX7_lacks 3 (Option.some Jvm.ClassFile.FieldType.int)) (jm_rm 2 45) (jm_Pc D dA ad u []) (va_Qi Post (jm_B D dA ad) (AM ad)) 0 0 (AM ad) := by
  refine jm_start [] [(0, .ref (ad 0))] (by decide) (Nat.le_of_ble_eq_true rfl) rfl (fun X hX hK => ?_)
  unfold mw_lacks at h
  refine jj_iconst hX dX7_lacks_0 ci_0 1 rfl ?_
  refine jj_istore_n (lv2 := [(0, .ref (ad 0)), (1, .int (0 : Int32))]) hX dX7_lacks_1 (Nat.le_of_ble_eq_true rfl) [1, 0] rfl 2 rfl ?_
  refine jj_iconst hX dX7_lacks_2 ci_1 3 rfl ?_
  refine jj_istore_n (lv2 := [(0, .ref (ad 0)), (1, .int (0 : Int32)), (2, .int (1 : Int32))]) hX dX7_lacks_3 (Nat.le_of_ble_eq_true rfl) [1, 2, 0] rfl 4 rfl ?_
  obtain ⟨n9, h⟩ := h
  exact tmw_lacks_L4 hX hK hD n9 _ _ _ h
theorem hd_mw_lacks : yX7_lacks.cls = RX7 ∧ yX7_lacks.cls ≠ "java/lang/invoke/MethodHandle" ∧ yX7_lacks.cls ≠ "java/lang/invoke/VarHandle" ∧ (parseMethodDescriptor yX7_lacks.desc).map (fun d => d.parameters.length) = some 0 := by decide +kernel
theorem kmw_lacks {X : JC} {Q : State → Prop} {nL k n pc : Nat} {lv : List (Nat × Value)} {st : List Value} {own : String} {cc : ByteArray} {ret : Option FieldType} {F LL mc ms ix : Nat} {D : va_G} {dA ad : Nat → Nat} {u : MS} {Post : Int32 → MS → Prop} (hX : JX X own cc nL ret F LL mc ms) (hK : KM D dA (jj_s X)) (hD : MD ad) (hlk : (Cond.methodLink own ix yX7_lacks) ∈ lw_all) (hF : 2 + 1 ≤ F) (hL : 8 + (3 + 11) + 45 ≤ LL) (hk : k ≤ mc) (hk2 : n ≤ ms) (hw : (st.map fun v => v.category).sum ≤ 8) (d : decode cc pc = .ok (.invokevirtual ix, 3)) (q : Nat) (hq : pc + 3 = q) (h : mw_lacks  u Post) (kk : ∀ (r : Int32) (u2 : MS), Post r u2 → JJ X (AM ad) Q nL (MW D dA ad u2) k n q lv (.int r :: st)) : JJ X (AM ad) Q nL (MW D dA ad u) k n pc lv (.ref (ad 0) :: st) :=
  jm_calli (na := 0) (As := []) hX hK (mmw_lacks (jj_l X) D dA ad hD  u Post h) hlk q2154 q2155 q129 q2156 hd_mw_lacks rfl rfl hw hF hL hk hk2 d q hq kk
/-- RaisedPressModel.draw()I -/
def mw_draw (u : MS) (Post : Int32 → MS → Prop) : Prop :=
  ∀ u17 : MS, u17 = jm_s u 0 41 ((((jm_i u 0 41) * (2801 : Int32)) + (10163 : Int32)) - (((jm_i u 0 41) * (2801 : Int32)) + (10163 : Int32)) / (65536 : Int32) * (65536 : Int32)) →
  Post (((jm_i u17 0 41) / (8 : Int32)) - ((jm_i u17 0 41) / (8 : Int32)) / (16 : Int32) * (16 : Int32)) u17
set_option maxHeartbeats 4000000 in
set_option maxRecDepth 100000 in
theorem mmw_draw (l : Launch) (D : va_G) (dA ad : Nat → Nat) (hD : MD ad) (u : MS) (Post : Int32 → MS → Prop) (h : mw_draw  u Post) : Met l yX7_draw (ws_ yX7_draw cX7_draw 1 (Option.some Jvm.ClassFile.FieldType.int)) (jm_rm 0 0) (jm_Pc D dA ad u []) (va_Qi Post (jm_B D dA ad) (AM ad)) 0 0 (AM ad) := by
  refine jm_start [] [(0, .ref (ad 0))] (by decide) (Nat.le_of_ble_eq_true rfl) rfl (fun X hX hK => ?_)
  unfold mw_draw at h
  refine jj_aload_n hX dX7_draw_0 0 rfl 1 rfl ?_
  refine jt_41 hX hK dX7_draw_1 0 rfl dX7_draw_2 q1525 5 rfl rfl ?_
  refine jj_sipush hX dX7_draw_5 cs_2801 8 rfl ?_
  refine jj_imul hX dX7_draw_8 9 rfl ?_
  refine jj_sipush hX dX7_draw_9 cs_10163 12 rfl ?_
  refine jj_iadd hX dX7_draw_12 13 rfl ?_
  refine jj_ldcw (v := 65536) hX dX7_draw_13 q2171 16 rfl ?_
  refine jj_irem hX dX7_draw_16 (by decide) 17 rfl ?_
  refine jp_41 hX hK hD dX7_draw_17 q1525 20 rfl (fun u17 e17 => ?_)
  have h := h u17 e17
  refine jt_41 hX hK dX7_draw_20 0 rfl dX7_draw_21 q1525 24 rfl rfl ?_
  refine jj_bipush hX dX7_draw_24 cb_8 26 rfl ?_
  refine jj_idiv hX dX7_draw_26 (by decide) 27 rfl ?_
  refine jj_bipush hX dX7_draw_27 cb_16 29 rfl ?_
  refine jj_irem hX dX7_draw_29 (by decide) 30 rfl ?_
  exact jj_reti (post := Post) (u := u17) hX dX7_draw_30 (Nat.le_refl 0) (Nat.le_refl 0) jm_hB h
theorem hd_mw_draw : yX7_draw.cls = RX7 ∧ yX7_draw.cls ≠ "java/lang/invoke/MethodHandle" ∧ yX7_draw.cls ≠ "java/lang/invoke/VarHandle" ∧ (parseMethodDescriptor yX7_draw.desc).map (fun d => d.parameters.length) = some 0 := by decide +kernel
theorem kmw_draw {X : JC} {Q : State → Prop} {nL k n pc : Nat} {lv : List (Nat × Value)} {st : List Value} {own : String} {cc : ByteArray} {ret : Option FieldType} {F LL mc ms ix : Nat} {D : va_G} {dA ad : Nat → Nat} {u : MS} {Post : Int32 → MS → Prop} (hX : JX X own cc nL ret F LL mc ms) (hK : KM D dA (jj_s X)) (hD : MD ad) (hlk : (Cond.methodLink own ix yX7_draw) ∈ lw_all) (hF : 0 + 1 ≤ F) (hL : 8 + (1 + 11) + 0 ≤ LL) (hk : k ≤ mc) (hk2 : n ≤ ms) (hw : (st.map fun v => v.category).sum ≤ 8) (d : decode cc pc = .ok (.invokevirtual ix, 3)) (q : Nat) (hq : pc + 3 = q) (h : mw_draw  u Post) (kk : ∀ (r : Int32) (u2 : MS), Post r u2 → JJ X (AM ad) Q nL (MW D dA ad u2) k n q lv (.int r :: st)) : JJ X (AM ad) Q nL (MW D dA ad u) k n pc lv (.ref (ad 0) :: st) :=
  jm_calli (na := 0) (As := []) hX hK (mmw_draw (jj_l X) D dA ad hD  u Post h) hlk q2169 qs116 q129 q2170 hd_mw_draw rfl rfl hw hF hL hk hk2 d q hq kk
def mw_wears_L43_S (K10 : Int32 → Int32 → MS → Prop) (Post : Int32 → MS → Prop) (x2 : Int32) (x4 : Int32) (R : Int32 → Int32 → MS → Prop) (x3 : Int32) (x5 : Int32) (u : MS) : Prop :=
  ((6 : Int32) ≤ x5 →
    ∀ v105 : Int32, v105 = x4 + (1 : Int32) →
    K10 x3 v105 u) ∧
  (¬ (6 : Int32) ≤ x5 →
    vp_in ((600 : Int32) + x4) 19800 ∧
    ((((jm_i u 1 ((600 : Int32) + x4).toNatClampNeg) >>> (x5 &&& 31)) &&& (1 : Int32)) = 0 →
      ∀ v99 : Int32, v99 = x5 + (1 : Int32) →
      R x3 v99 u) ∧
    (¬ (((jm_i u 1 ((600 : Int32) + x4).toNatClampNeg) >>> (x5 &&& 31)) &&& (1 : Int32)) = 0 →
      mw_draw u (fun r70 u70 =>
        (r70 < x2 →
          vp_in x4 1250 ∧
          vp_in x4 1250 ∧
          ∀ u95 : MS, u95 = jm_s u70 21 x4.toNatClampNeg ((jm_i u70 21 x4.toNatClampNeg) &&& (((1 : Int32) <<< (x5 &&& 31)) ^^^ (-1 : Int32))) →
          ∀ v96 : Int32, v96 = x3 + (1 : Int32) →
          ∀ v99 : Int32, v99 = x5 + (1 : Int32) →
          R v96 v99 u95) ∧
        (¬ r70 < x2 →
          ∀ v99 : Int32, v99 = x5 + (1 : Int32) →
          R x3 v99 u70))))
def mw_wears_L43 (K10 : Int32 → Int32 → MS → Prop) (Post : Int32 → MS → Prop) (x2 : Int32) (x4 : Int32) : Nat → Int32 → Int32 → MS → Prop
  | 0 => fun _ _ _ => False
  | n + 1 => fun x3 x5 u => mw_wears_L43_S K10 Post x2 x4 (mw_wears_L43 K10 Post x2 x4 n) x3 x5 u
def mw_wears_L10_S (Post : Int32 → MS → Prop) (x2 : Int32) (R : Int32 → Int32 → MS → Prop) (x3 : Int32) (x4 : Int32) (u : MS) : Prop :=
  ((jm_i u 1 8) ≤ x4 →
    Post x3 u) ∧
  (¬ (jm_i u 1 8) ≤ x4 →
    vp_in ((600 : Int32) + x4) 19800 ∧
    vp_in x4 1250 ∧
    ∀ u39 : MS, u39 = jm_s u 21 x4.toNatClampNeg (jm_i u 1 ((600 : Int32) + x4).toNatClampNeg) →
    ∃ n, mw_wears_L43 R Post x2 x4 n x3 (0 : Int32) u39)
def mw_wears_L10 (Post : Int32 → MS → Prop) (x2 : Int32) : Nat → Int32 → Int32 → MS → Prop
  | 0 => fun _ _ _ => False
  | n + 1 => fun x3 x4 u => mw_wears_L10_S Post x2 (mw_wears_L10 Post x2 n) x3 x4 u
/-- RaisedPressModel.wears(II)I -/
def mw_wears (x1 : Int32) (x2 : Int32) (u : MS) (Post : Int32 → MS → Prop) : Prop :=
  ∀ u2 : MS, u2 = jm_s u 0 41 x1 →
  ∃ n, mw_wears_L10 Post x2 n (0 : Int32) (0 : Int32) u2
set_option maxHeartbeats 4000000 in
set_option maxRecDepth 100000 in
theorem tmw_wears_L43 {X : JC} {D : va_G} {dA ad : Nat → Nat} {K10 : Int32 → Int32 → MS → Prop} {Post : Int32 → MS → Prop} {x2 : Int32} {x4 : Int32} (hX : JX X yX7_wears.cls cX7_wears 6 (Option.some Jvm.ClassFile.FieldType.int) 1 20 0 0) (hK : KM D dA (jj_s X)) (hD : MD ad) (hK10 : ∀ (y3 : Int32) (y4 : Int32) (u : MS), K10 y3 y4 u → JJ X (AM ad) (jj_Q X (va_Qi Post (jm_B D dA ad) (AM ad)) 0 0 (AM ad)) 6 (MW D dA ad u) 0 0 10 [(0, .ref (ad 0)), (2, .int x2), (3, .int y3), (4, .int y4)] []) : ∀ (n : Nat) (x3 : Int32) (x5 : Int32) (u : MS), mw_wears_L43 K10 Post x2 x4 n x3 x5 u → JJ X (AM ad) (jj_Q X (va_Qi Post (jm_B D dA ad) (AM ad)) 0 0 (AM ad)) 6 (MW D dA ad u) 0 0 43 [(0, .ref (ad 0)), (2, .int x2), (3, .int x3), (4, .int x4), (5, .int x5)] [] := by
  intro n
  induction n with
  | zero =>
    intro x3 x5 u h
    exact h.elim
  | succ n ih =>
    intro x3 x5 u h
    have h : mw_wears_L43_S K10 Post x2 x4 (mw_wears_L43 K10 Post x2 x4 n) x3 x5 u := h
    unfold mw_wears_L43_S at h
    refine jj_iload hX dX7_wears_43 4 rfl 45 rfl ?_
    refine jj_bipush hX dX7_wears_45 cb_6 47 rfl ?_
    refine jj_icmp_ge hX dX7_wears_47 105 50 (by decide) rfl (fun c47 => ?_) (fun c47 => ?_)
    · have h := h.1 c47
      obtain ⟨v105, e105⟩ : ∃ y : Int32, y = x4 + (1 : Int32) := ⟨_, rfl⟩
      have h := h v105 e105
      refine jj_iinc (v := v105) (lv2 := [(0, .ref (ad 0)), (2, .int x2), (3, .int x3), (4, .int v105), (5, .int x5)]) hX dX7_wears_105 3 rfl (by rw [e105, ci_1]) (Nat.le_of_ble_eq_true rfl) [1, 2, 3, 0, 4] rfl 108 rfl ?_
      refine jj_goto hX dX7_wears_108 10 (by decide) ?_
      refine jj_sub (lv2 := [(0, .ref (ad 0)), (2, .int x2), (3, .int x3), (4, .int v105)]) [0, 1, 2, 3] rfl ?_
      exact hK10 _ _ _ h
    · have h := h.2 c47
      refine jt_0 hX hK dX7_wears_50 0 rfl dX7_wears_51 q1484 54 rfl rfl ?_
      refine jj_sipush hX dX7_wears_54 cs_600 57 rfl ?_
      refine jj_iload hX dX7_wears_57 3 rfl 59 rfl ?_
      refine jj_iadd hX dX7_wears_59 60 rfl ?_
      obtain ⟨hi60, h⟩ := h
      refine jr_1 hX hK _ rfl hi60 dX7_wears_60 61 rfl ?_
      refine jj_iload hX dX7_wears_61 4 rfl 63 rfl ?_
      refine jj_ishr hX dX7_wears_63 64 rfl ?_
      refine jj_iconst hX dX7_wears_64 ci_1 65 rfl ?_
      refine jj_iand hX dX7_wears_65 66 rfl ?_
      refine jj_if_eq hX dX7_wears_66 99 69 (by decide) rfl (fun c66 => ?_) (fun c66 => ?_)
      · have h := h.1 c66
        obtain ⟨v99, e99⟩ : ∃ y : Int32, y = x5 + (1 : Int32) := ⟨_, rfl⟩
        have h := h v99 e99
        refine jj_iinc (v := v99) (lv2 := [(0, .ref (ad 0)), (2, .int x2), (3, .int x3), (4, .int x4), (5, .int v99)]) hX dX7_wears_99 4 rfl (by rw [e99, ci_1]) (Nat.le_of_ble_eq_true rfl) [1, 2, 3, 4, 0] rfl 102 rfl ?_
        refine jj_goto hX dX7_wears_102 43 (by decide) ?_
        exact ih _ _ _ h
      · have h := h.2 c66
        refine jj_aload_n hX dX7_wears_69 0 rfl 70 rfl ?_
        refine kmw_draw hX hK hD q2167 (Nat.le_of_ble_eq_true rfl) (Nat.le_of_ble_eq_true rfl) (Nat.zero_le _) (Nat.zero_le _) (Nat.le_of_ble_eq_true rfl) dX7_wears_70 73 rfl h (fun r70 u70 h => ?_)
        refine jj_iload_n hX dX7_wears_73 1 rfl 74 rfl ?_
        refine jj_icmp_lt hX dX7_wears_74 80 77 (by decide) rfl (fun c74 => ?_) (fun c74 => ?_)
        · have h := h.1 c74
          refine jt_43 hX hK dX7_wears_80 0 rfl dX7_wears_81 q1527 84 rfl rfl ?_
          refine jj_iload hX dX7_wears_84 3 rfl 86 rfl ?_
          refine jj_dup2 hX dX7_wears_86 rfl rfl 87 rfl ?_
          obtain ⟨hi87, h⟩ := h
          refine jr_21 hX hK _ rfl hi87 dX7_wears_87 88 rfl ?_
          refine jj_iconst hX dX7_wears_88 ci_1 89 rfl ?_
          refine jj_iload hX dX7_wears_89 4 rfl 91 rfl ?_
          refine jj_ishl hX dX7_wears_91 92 rfl ?_
          refine jj_iconst hX dX7_wears_92 ci_m1 93 rfl ?_
          refine jj_ixor hX dX7_wears_93 94 rfl ?_
          refine jj_iand hX dX7_wears_94 95 rfl ?_
          obtain ⟨hi95, h⟩ := h
          refine jw_21 hX hK hD _ rfl hi95 dX7_wears_95 96 rfl (fun u95 e95 => ?_)
          have h := h u95 e95
          obtain ⟨v96, e96⟩ : ∃ y : Int32, y = x3 + (1 : Int32) := ⟨_, rfl⟩
          have h := h v96 e96
          refine jj_iinc (v := v96) (lv2 := [(0, .ref (ad 0)), (2, .int x2), (3, .int v96), (4, .int x4), (5, .int x5)]) hX dX7_wears_96 2 rfl (by rw [e96, ci_1]) (Nat.le_of_ble_eq_true rfl) [1, 2, 0, 3, 4] rfl 99 rfl ?_
          obtain ⟨v99, e99⟩ : ∃ y : Int32, y = x5 + (1 : Int32) := ⟨_, rfl⟩
          have h := h v99 e99
          refine jj_iinc (v := v99) (lv2 := [(0, .ref (ad 0)), (2, .int x2), (3, .int v96), (4, .int x4), (5, .int v99)]) hX dX7_wears_99 4 rfl (by rw [e99, ci_1]) (Nat.le_of_ble_eq_true rfl) [1, 2, 3, 4, 0] rfl 102 rfl ?_
          refine jj_goto hX dX7_wears_102 43 (by decide) ?_
          exact ih _ _ _ h
        · have h := h.2 c74
          refine jj_goto hX dX7_wears_77 99 (by decide) ?_
          obtain ⟨v99, e99⟩ : ∃ y : Int32, y = x5 + (1 : Int32) := ⟨_, rfl⟩
          have h := h v99 e99
          refine jj_iinc (v := v99) (lv2 := [(0, .ref (ad 0)), (2, .int x2), (3, .int x3), (4, .int x4), (5, .int v99)]) hX dX7_wears_99 4 rfl (by rw [e99, ci_1]) (Nat.le_of_ble_eq_true rfl) [1, 2, 3, 4, 0] rfl 102 rfl ?_
          refine jj_goto hX dX7_wears_102 43 (by decide) ?_
          exact ih _ _ _ h
set_option maxHeartbeats 4000000 in
set_option maxRecDepth 100000 in
theorem tmw_wears_L10 {X : JC} {D : va_G} {dA ad : Nat → Nat} {Post : Int32 → MS → Prop} {x2 : Int32} (hX : JX X yX7_wears.cls cX7_wears 6 (Option.some Jvm.ClassFile.FieldType.int) 1 20 0 0) (hK : KM D dA (jj_s X)) (hD : MD ad) : ∀ (n : Nat) (x3 : Int32) (x4 : Int32) (u : MS), mw_wears_L10 Post x2 n x3 x4 u → JJ X (AM ad) (jj_Q X (va_Qi Post (jm_B D dA ad) (AM ad)) 0 0 (AM ad)) 6 (MW D dA ad u) 0 0 10 [(0, .ref (ad 0)), (2, .int x2), (3, .int x3), (4, .int x4)] [] := by
  intro n
  induction n with
  | zero =>
    intro x3 x4 u h
    exact h.elim
  | succ n ih =>
    intro x3 x4 u h
    have h : mw_wears_L10_S Post x2 (mw_wears_L10 Post x2 n) x3 x4 u := h
    unfold mw_wears_L10_S at h
    refine jj_iload hX dX7_wears_10 3 rfl 12 rfl ?_
    refine jt_0 hX hK dX7_wears_12 0 rfl dX7_wears_13 q1484 16 rfl rfl ?_
    refine jj_bipush hX dX7_wears_16 cb_8 18 rfl ?_
    refine jr_1 hX hK 8 kc_8 vi_1_8 dX7_wears_18 19 rfl ?_
    refine jj_icmp_ge hX dX7_wears_19 111 22 (by decide) rfl (fun c19 => ?_) (fun c19 => ?_)
    · have h := h.1 c19
      refine jj_iload_n hX dX7_wears_111 2 rfl 112 rfl ?_
      exact jj_reti (post := Post) (u := u) hX dX7_wears_112 (Nat.le_refl 0) (Nat.le_refl 0) jm_hB h
    · have h := h.2 c19
      refine jt_43 hX hK dX7_wears_22 0 rfl dX7_wears_23 q1527 26 rfl rfl ?_
      refine jj_iload hX dX7_wears_26 3 rfl 28 rfl ?_
      refine jt_0 hX hK dX7_wears_28 0 rfl dX7_wears_29 q1484 32 rfl rfl ?_
      refine jj_sipush hX dX7_wears_32 cs_600 35 rfl ?_
      refine jj_iload hX dX7_wears_35 3 rfl 37 rfl ?_
      refine jj_iadd hX dX7_wears_37 38 rfl ?_
      obtain ⟨hi38, h⟩ := h
      refine jr_1 hX hK _ rfl hi38 dX7_wears_38 39 rfl ?_
      obtain ⟨hi39, h⟩ := h
      refine jw_21 hX hK hD _ rfl hi39 dX7_wears_39 40 rfl (fun u39 e39 => ?_)
      have h := h u39 e39
      refine jj_iconst hX dX7_wears_40 ci_0 41 rfl ?_
      refine jj_istore (lv2 := [(0, .ref (ad 0)), (2, .int x2), (3, .int x3), (4, .int x4), (5, .int (0 : Int32))]) hX dX7_wears_41 (Nat.le_of_ble_eq_true rfl) [1, 2, 3, 4, 0] rfl 43 rfl ?_
      obtain ⟨n9, h⟩ := h
      exact tmw_wears_L43 hX hK hD ih n9 _ _ _ h
set_option maxHeartbeats 4000000 in
set_option maxRecDepth 100000 in
theorem mmw_wears (l : Launch) (D : va_G) (dA ad : Nat → Nat) (hD : MD ad) (x1 : Int32) (x2 : Int32) (u : MS) (Post : Int32 → MS → Prop) (h : mw_wears x1 x2 u Post) : Met l yX7_wears (ws_ yX7_wears cX7_wears 6 (Option.some Jvm.ClassFile.FieldType.int)) (jm_rm 1 20) (jm_Pc D dA ad u [.int x1, .int x2]) (va_Qi Post (jm_B D dA ad) (AM ad)) 0 0 (AM ad) := by
  refine jm_start [.int x1, .int x2] [(0, .ref (ad 0)), (1, .int x1), (2, .int x2)] (by decide) (Nat.le_of_ble_eq_true rfl) rfl (fun X hX hK => ?_)
  unfold mw_wears at h
  refine jj_aload_n hX dX7_wears_0 0 rfl 1 rfl ?_
  refine jj_iload_n hX dX7_wears_1 1 rfl 2 rfl ?_
  refine jp_41 hX hK hD dX7_wears_2 q1525 5 rfl (fun u2 e2 => ?_)
  have h := h u2 e2
  refine jj_iconst hX dX7_wears_5 ci_0 6 rfl ?_
  refine jj_istore_n (lv2 := [(0, .ref (ad 0)), (2, .int x2), (3, .int (0 : Int32))]) hX dX7_wears_6 (Nat.le_of_ble_eq_true rfl) [1, 3, 0] rfl 7 rfl ?_
  refine jj_iconst hX dX7_wears_7 ci_0 8 rfl ?_
  refine jj_istore (lv2 := [(0, .ref (ad 0)), (2, .int x2), (3, .int (0 : Int32)), (4, .int (0 : Int32))]) hX dX7_wears_8 (Nat.le_of_ble_eq_true rfl) [1, 2, 3, 0] rfl 10 rfl ?_
  obtain ⟨n9, h⟩ := h
  exact tmw_wears_L10 hX hK hD n9 _ _ _ h
theorem hd_mw_wears : yX7_wears.cls = RX7 ∧ yX7_wears.cls ≠ "java/lang/invoke/MethodHandle" ∧ yX7_wears.cls ≠ "java/lang/invoke/VarHandle" ∧ (parseMethodDescriptor yX7_wears.desc).map (fun d => d.parameters.length) = some 2 := by decide +kernel
theorem kmw_wears {X : JC} {Q : State → Prop} {nL k n pc : Nat} {lv : List (Nat × Value)} {st : List Value} {own : String} {cc : ByteArray} {ret : Option FieldType} {F LL mc ms ix : Nat} {D : va_G} {dA ad : Nat → Nat} {x1 : Int32} {x2 : Int32} {u : MS} {Post : Int32 → MS → Prop} (hX : JX X own cc nL ret F LL mc ms) (hK : KM D dA (jj_s X)) (hD : MD ad) (hlk : (Cond.methodLink own ix yX7_wears) ∈ lw_all) (hF : 1 + 1 ≤ F) (hL : 8 + (6 + 11) + 20 ≤ LL) (hk : k ≤ mc) (hk2 : n ≤ ms) (hw : (st.map fun v => v.category).sum ≤ 8) (d : decode cc pc = .ok (.invokevirtual ix, 3)) (q : Nat) (hq : pc + 3 = q) (h : mw_wears x1 x2 u Post) (kk : ∀ (r : Int32) (u2 : MS), Post r u2 → JJ X (AM ad) Q nL (MW D dA ad u2) k n q lv (.int r :: st)) : JJ X (AM ad) Q nL (MW D dA ad u) k n pc lv (.int x2 :: .int x1 :: .ref (ad 0) :: st) :=
  jm_calli (na := 2) (As := [.int x1, .int x2]) hX hK (mmw_wears (jj_l X) D dA ad hD x1 x2 u Post h) hlk q2165 qs115 q129 q2166 hd_mw_wears rfl rfl hw hF hL hk hk2 d q hq kk
def mw_worn_L65_S (Post : Int32 → MS → Prop) (x3 : Int32) (R : Int32 → MS → Prop) (x4 : Int32) (u : MS) : Prop :=
  ((jm_i u 0 42) ≤ x4 →
    mw_gives x3 u (fun r96 u96 =>
      Post r96 u96)) ∧
  (¬ (jm_i u 0 42) ≤ x4 →
    vp_in x4 1250 ∧
    vp_in x4 1250 ∧
    ∀ u87 : MS, u87 = jm_s u 22 x4.toNatClampNeg (jm_i u 21 x4.toNatClampNeg) →
    ∀ v88 : Int32, v88 = x4 + (1 : Int32) →
    R v88 u87)
def mw_worn_L65 (Post : Int32 → MS → Prop) (x3 : Int32) : Nat → Int32 → MS → Prop
  | 0 => fun _ _ => False
  | n + 1 => fun x4 u => mw_worn_L65_S Post x3 (mw_worn_L65 Post x3 n) x4 u
/-- RaisedPressModel.worn(II)I -/
def mw_worn (x1 : Int32) (x2 : Int32) (u : MS) (Post : Int32 → MS → Prop) : Prop :=
  mw_isFrom x1.toInt64 (0 : Int64) (9999 : Int64) (fun r6 =>
    (r6 = 0 →
      mw_refuse (1 : Int32) u (fun r26 u26 =>
        Post r26 u26)) ∧
    (¬ r6 = 0 →
      mw_isFrom x2.toInt64 (0 : Int64) (16 : Int64) (fun r18 =>
        (¬ r18 = 0 →
          mw_isSet u (fun r31 u31 =>
            (¬ r31 = 0 →
              mw_wears x1 x2 u31 (fun r47 u47 =>
                ∀ u59 : MS, u59 = jm_s u47 0 42 (jm_i u47 1 8) →
                ∃ n, mw_worn_L65 Post r47 n (0 : Int32) u59)) ∧
            (r31 = 0 →
              mw_refuse (6 : Int32) u31 (fun r40 u40 =>
                Post r40 u40)))) ∧
        (r18 = 0 →
          mw_refuse (1 : Int32) u (fun r26 u26 =>
            Post r26 u26)))))
set_option maxHeartbeats 4000000 in
set_option maxRecDepth 100000 in
theorem tmw_worn_L65 {X : JC} {D : va_G} {dA ad : Nat → Nat} {Post : Int32 → MS → Prop} {x3 : Int32} (hX : JX X yX7_worn.cls cX7_worn 5 (Option.some Jvm.ClassFile.FieldType.int) 2 45 0 0) (hK : KM D dA (jj_s X)) (hD : MD ad) : ∀ (n : Nat) (x4 : Int32) (u : MS), mw_worn_L65 Post x3 n x4 u → JJ X (AM ad) (jj_Q X (va_Qi Post (jm_B D dA ad) (AM ad)) 0 0 (AM ad)) 5 (MW D dA ad u) 0 0 65 [(0, .ref (ad 0)), (3, .int x3), (4, .int x4)] [] := by
  intro n
  induction n with
  | zero =>
    intro x4 u h
    exact h.elim
  | succ n ih =>
    intro x4 u h
    have h : mw_worn_L65_S Post x3 (mw_worn_L65 Post x3 n) x4 u := h
    unfold mw_worn_L65_S at h
    refine jj_iload hX dX7_worn_65 2 rfl 67 rfl ?_
    refine jt_42 hX hK dX7_worn_67 0 rfl dX7_worn_68 q1526 71 rfl rfl ?_
    refine jj_icmp_ge hX dX7_worn_71 94 74 (by decide) rfl (fun c71 => ?_) (fun c71 => ?_)
    · have h := h.1 c71
      refine jj_aload_n hX dX7_worn_94 0 rfl 95 rfl ?_
      refine jj_iload_n hX dX7_worn_95 1 rfl 96 rfl ?_
      refine kmw_gives hX hK hD q1752 (Nat.le_of_ble_eq_true rfl) (Nat.le_of_ble_eq_true rfl) (Nat.zero_le _) (Nat.zero_le _) (Nat.le_of_ble_eq_true rfl) dX7_worn_96 99 rfl h (fun r96 u96 h => ?_)
      exact jj_reti (post := Post) (u := u96) hX dX7_worn_99 (Nat.le_refl 0) (Nat.le_refl 0) jm_hB h
    · have h := h.2 c71
      refine jt_44 hX hK dX7_worn_74 0 rfl dX7_worn_75 q1528 78 rfl rfl ?_
      refine jj_iload hX dX7_worn_78 2 rfl 80 rfl ?_
      refine jt_43 hX hK dX7_worn_80 0 rfl dX7_worn_81 q1527 84 rfl rfl ?_
      refine jj_iload hX dX7_worn_84 2 rfl 86 rfl ?_
      obtain ⟨hi86, h⟩ := h
      refine jr_21 hX hK _ rfl hi86 dX7_worn_86 87 rfl ?_
      obtain ⟨hi87, h⟩ := h
      refine jw_22 hX hK hD _ rfl hi87 dX7_worn_87 88 rfl (fun u87 e87 => ?_)
      have h := h u87 e87
      obtain ⟨v88, e88⟩ : ∃ y : Int32, y = x4 + (1 : Int32) := ⟨_, rfl⟩
      have h := h v88 e88
      refine jj_iinc (v := v88) (lv2 := [(0, .ref (ad 0)), (3, .int x3), (4, .int v88)]) hX dX7_worn_88 2 rfl (by rw [e88, ci_1]) (Nat.le_of_ble_eq_true rfl) [1, 2, 0] rfl 91 rfl ?_
      refine jj_goto hX dX7_worn_91 65 (by decide) ?_
      exact ih _ _ h
set_option maxHeartbeats 4000000 in
set_option maxRecDepth 100000 in
theorem mmw_worn (l : Launch) (D : va_G) (dA ad : Nat → Nat) (hD : MD ad) (x1 : Int32) (x2 : Int32) (u : MS) (Post : Int32 → MS → Prop) (h : mw_worn x1 x2 u Post) : Met l yX7_worn (ws_ yX7_worn cX7_worn 5 (Option.some Jvm.ClassFile.FieldType.int)) (jm_rm 2 45) (jm_Pc D dA ad u [.int x1, .int x2]) (va_Qi Post (jm_B D dA ad) (AM ad)) 0 0 (AM ad) := by
  refine jm_start [.int x1, .int x2] [(0, .ref (ad 0)), (1, .int x1), (2, .int x2)] (by decide) (Nat.le_of_ble_eq_true rfl) rfl (fun X hX hK => ?_)
  unfold mw_worn at h
  refine jj_iload_n hX dX7_worn_0 1 rfl 1 rfl ?_
  refine jj_i2l hX dX7_worn_1 2 rfl ?_
  refine jj_lconst (v := 0) hX dX7_worn_2 (by decide) 3 rfl ?_
  refine jj_ldc2 (v := 9999) hX dX7_worn_3 q2161 6 rfl ?_
  refine kmw_isFrom hX MW.keeps q1944 (Nat.le_of_ble_eq_true rfl) (Nat.le_of_ble_eq_true rfl) (Nat.zero_le _) (Nat.zero_le _) (Nat.le_of_ble_eq_true rfl) dX7_worn_6 9 rfl h (fun r6 hb6 h => ?_)
  refine jj_if_eq hX dX7_worn_9 24 12 (by decide) rfl (fun c9 => ?_) (fun c9 => ?_)
  · have h := h.1 c9
    refine jj_aload_n hX dX7_worn_24 0 rfl 25 rfl ?_
    refine jj_iconst hX dX7_worn_25 ci_1 26 rfl ?_
    refine kmw_refuse hX hK hD q1702 (Nat.le_of_ble_eq_true rfl) (Nat.le_of_ble_eq_true rfl) (Nat.zero_le _) (Nat.zero_le _) (Nat.le_of_ble_eq_true rfl) dX7_worn_26 29 rfl h (fun r26 u26 h => ?_)
    exact jj_reti (post := Post) (u := u26) hX dX7_worn_29 (Nat.le_refl 0) (Nat.le_refl 0) jm_hB h
  · have h := h.2 c9
    refine jj_iload_n hX dX7_worn_12 2 rfl 13 rfl ?_
    refine jj_i2l hX dX7_worn_13 14 rfl ?_
    refine jj_lconst (v := 0) hX dX7_worn_14 (by decide) 15 rfl ?_
    refine jj_ldc2 (v := 16) hX dX7_worn_15 q2162 18 rfl ?_
    refine kmw_isFrom hX MW.keeps q1944 (Nat.le_of_ble_eq_true rfl) (Nat.le_of_ble_eq_true rfl) (Nat.zero_le _) (Nat.zero_le _) (Nat.le_of_ble_eq_true rfl) dX7_worn_18 21 rfl h (fun r18 hb18 h => ?_)
    refine jj_if_ne hX dX7_worn_21 30 24 (by decide) rfl (fun c21 => ?_) (fun c21 => ?_)
    · have h := h.1 c21
      refine jj_aload_n hX dX7_worn_30 0 rfl 31 rfl ?_
      refine kmw_isSet hX hK hD q1864 (Nat.le_of_ble_eq_true rfl) (Nat.le_of_ble_eq_true rfl) (Nat.zero_le _) (Nat.zero_le _) (Nat.le_of_ble_eq_true rfl) dX7_worn_31 34 rfl h (fun r31 u31 hb31 h => ?_)
      refine jj_if_ne hX dX7_worn_34 44 37 (by decide) rfl (fun c34 => ?_) (fun c34 => ?_)
      · have h := h.1 c34
        refine jj_aload_n hX dX7_worn_44 0 rfl 45 rfl ?_
        refine jj_iload_n hX dX7_worn_45 1 rfl 46 rfl ?_
        refine jj_iload_n hX dX7_worn_46 2 rfl 47 rfl ?_
        refine kmw_wears hX hK hD q2163 (Nat.le_of_ble_eq_true rfl) (Nat.le_of_ble_eq_true rfl) (Nat.zero_le _) (Nat.zero_le _) (Nat.le_of_ble_eq_true rfl) dX7_worn_47 50 rfl h (fun r47 u47 h => ?_)
        refine jj_istore_n (lv2 := [(0, .ref (ad 0)), (3, .int r47)]) hX dX7_worn_50 (Nat.le_of_ble_eq_true rfl) [1, 0] rfl 51 rfl ?_
        refine jj_aload_n hX dX7_worn_51 0 rfl 52 rfl ?_
        refine jt_0 hX hK dX7_worn_52 0 rfl dX7_worn_53 q1484 56 rfl rfl ?_
        refine jj_bipush hX dX7_worn_56 cb_8 58 rfl ?_
        refine jr_1 hX hK 8 kc_8 vi_1_8 dX7_worn_58 59 rfl ?_
        refine jp_42 hX hK hD dX7_worn_59 q1526 62 rfl (fun u59 e59 => ?_)
        have h := h u59 e59
        refine jj_iconst hX dX7_worn_62 ci_0 63 rfl ?_
        refine jj_istore (lv2 := [(0, .ref (ad 0)), (3, .int r47), (4, .int (0 : Int32))]) hX dX7_worn_63 (Nat.le_of_ble_eq_true rfl) [1, 2, 0] rfl 65 rfl ?_
        obtain ⟨n9, h⟩ := h
        exact tmw_worn_L65 hX hK hD n9 _ _ h
      · have h := h.2 c34
        refine jj_aload_n hX dX7_worn_37 0 rfl 38 rfl ?_
        refine jj_bipush hX dX7_worn_38 cb_6 40 rfl ?_
        refine kmw_refuse hX hK hD q1702 (Nat.le_of_ble_eq_true rfl) (Nat.le_of_ble_eq_true rfl) (Nat.zero_le _) (Nat.zero_le _) (Nat.le_of_ble_eq_true rfl) dX7_worn_40 43 rfl h (fun r40 u40 h => ?_)
        exact jj_reti (post := Post) (u := u40) hX dX7_worn_43 (Nat.le_refl 0) (Nat.le_refl 0) jm_hB h
    · have h := h.2 c21
      refine jj_aload_n hX dX7_worn_24 0 rfl 25 rfl ?_
      refine jj_iconst hX dX7_worn_25 ci_1 26 rfl ?_
      refine kmw_refuse hX hK hD q1702 (Nat.le_of_ble_eq_true rfl) (Nat.le_of_ble_eq_true rfl) (Nat.zero_le _) (Nat.zero_le _) (Nat.le_of_ble_eq_true rfl) dX7_worn_26 29 rfl h (fun r26 u26 h => ?_)
      exact jj_reti (post := Post) (u := u26) hX dX7_worn_29 (Nat.le_refl 0) (Nat.le_refl 0) jm_hB h
theorem hd_mw_worn : yX7_worn.cls = RX7 ∧ yX7_worn.cls ≠ "java/lang/invoke/MethodHandle" ∧ yX7_worn.cls ≠ "java/lang/invoke/VarHandle" ∧ (parseMethodDescriptor yX7_worn.desc).map (fun d => d.parameters.length) = some 2 := by decide +kernel
theorem kmw_worn {X : JC} {Q : State → Prop} {nL k n pc : Nat} {lv : List (Nat × Value)} {st : List Value} {own : String} {cc : ByteArray} {ret : Option FieldType} {F LL mc ms ix : Nat} {D : va_G} {dA ad : Nat → Nat} {x1 : Int32} {x2 : Int32} {u : MS} {Post : Int32 → MS → Prop} (hX : JX X own cc nL ret F LL mc ms) (hK : KM D dA (jj_s X)) (hD : MD ad) (hlk : (Cond.methodLink own ix yX7_worn) ∈ lw_all) (hF : 2 + 1 ≤ F) (hL : 8 + (5 + 11) + 45 ≤ LL) (hk : k ≤ mc) (hk2 : n ≤ ms) (hw : (st.map fun v => v.category).sum ≤ 8) (d : decode cc pc = .ok (.invokevirtual ix, 3)) (q : Nat) (hq : pc + 3 = q) (h : mw_worn x1 x2 u Post) (kk : ∀ (r : Int32) (u2 : MS), Post r u2 → JJ X (AM ad) Q nL (MW D dA ad u2) k n q lv (.int r :: st)) : JJ X (AM ad) Q nL (MW D dA ad u) k n pc lv (.int x2 :: .int x1 :: .ref (ad 0) :: st) :=
  jm_calli (na := 2) (As := [.int x1, .int x2]) hX hK (mmw_worn (jj_l X) D dA ad hD x1 x2 u Post h) hlk q2158 q2159 q129 q2160 hd_mw_worn rfl rfl hw hF hL hk hk2 d q hq kk
/-- RaisedPressModel.wornAt(I)I -/
def mw_wornAt (x1 : Int32) (u : MS) (Post : Int32 → MS → Prop) : Prop :=
  (x1 < 0 →
    mw_refuse (6 : Int32) u (fun r15 u15 =>
      Post r15 u15)) ∧
  (¬ x1 < 0 →
    (x1 < (jm_i u 0 42) →
      vp_in x1 1250 ∧
      mw_gives (jm_i u 22 x1.toNatClampNeg) u (fun r28 u28 =>
        Post r28 u28)) ∧
    (¬ x1 < (jm_i u 0 42) →
      mw_refuse (6 : Int32) u (fun r15 u15 =>
        Post r15 u15)))
set_option maxHeartbeats 4000000 in
set_option maxRecDepth 100000 in
theorem mmw_wornAt (l : Launch) (D : va_G) (dA ad : Nat → Nat) (hD : MD ad) (x1 : Int32) (u : MS) (Post : Int32 → MS → Prop) (h : mw_wornAt x1 u Post) : Met l yX7_wornAt (ws_ yX7_wornAt cX7_wornAt 2 (Option.some Jvm.ClassFile.FieldType.int)) (jm_rm 1 21) (jm_Pc D dA ad u [.int x1]) (va_Qi Post (jm_B D dA ad) (AM ad)) 0 0 (AM ad) := by
  refine jm_start [.int x1] [(0, .ref (ad 0)), (1, .int x1)] (by decide) (Nat.le_of_ble_eq_true rfl) rfl (fun X hX hK => ?_)
  unfold mw_wornAt at h
  refine jj_iload_n hX dX7_wornAt_0 1 rfl 1 rfl ?_
  refine jj_if_lt hX dX7_wornAt_1 12 4 (by decide) rfl (fun c1 => ?_) (fun c1 => ?_)
  · have h := h.1 c1
    refine jj_aload_n hX dX7_wornAt_12 0 rfl 13 rfl ?_
    refine jj_bipush hX dX7_wornAt_13 cb_6 15 rfl ?_
    refine kmw_refuse hX hK hD q1702 (Nat.le_of_ble_eq_true rfl) (Nat.le_of_ble_eq_true rfl) (Nat.zero_le _) (Nat.zero_le _) (Nat.le_of_ble_eq_true rfl) dX7_wornAt_15 18 rfl h (fun r15 u15 h => ?_)
    refine jj_goto hX dX7_wornAt_18 31 (by decide) ?_
    exact jj_reti (post := Post) (u := u15) hX dX7_wornAt_31 (Nat.le_refl 0) (Nat.le_refl 0) jm_hB h
  · have h := h.2 c1
    refine jj_iload_n hX dX7_wornAt_4 1 rfl 5 rfl ?_
    refine jt_42 hX hK dX7_wornAt_5 0 rfl dX7_wornAt_6 q1526 9 rfl rfl ?_
    refine jj_icmp_lt hX dX7_wornAt_9 21 12 (by decide) rfl (fun c9 => ?_) (fun c9 => ?_)
    · have h := h.1 c9
      refine jj_aload_n hX dX7_wornAt_21 0 rfl 22 rfl ?_
      refine jt_44 hX hK dX7_wornAt_22 0 rfl dX7_wornAt_23 q1528 26 rfl rfl ?_
      refine jj_iload_n hX dX7_wornAt_26 1 rfl 27 rfl ?_
      obtain ⟨hi27, h⟩ := h
      refine jr_22 hX hK _ rfl hi27 dX7_wornAt_27 28 rfl ?_
      refine kmw_gives hX hK hD q1752 (Nat.le_of_ble_eq_true rfl) (Nat.le_of_ble_eq_true rfl) (Nat.zero_le _) (Nat.zero_le _) (Nat.le_of_ble_eq_true rfl) dX7_wornAt_28 31 rfl h (fun r28 u28 h => ?_)
      exact jj_reti (post := Post) (u := u28) hX dX7_wornAt_31 (Nat.le_refl 0) (Nat.le_refl 0) jm_hB h
    · have h := h.2 c9
      refine jj_aload_n hX dX7_wornAt_12 0 rfl 13 rfl ?_
      refine jj_bipush hX dX7_wornAt_13 cb_6 15 rfl ?_
      refine kmw_refuse hX hK hD q1702 (Nat.le_of_ble_eq_true rfl) (Nat.le_of_ble_eq_true rfl) (Nat.zero_le _) (Nat.zero_le _) (Nat.le_of_ble_eq_true rfl) dX7_wornAt_15 18 rfl h (fun r15 u15 h => ?_)
      refine jj_goto hX dX7_wornAt_18 31 (by decide) ?_
      exact jj_reti (post := Post) (u := u15) hX dX7_wornAt_31 (Nat.le_refl 0) (Nat.le_refl 0) jm_hB h
theorem hd_mw_wornAt : yX7_wornAt.cls = RX7 ∧ yX7_wornAt.cls ≠ "java/lang/invoke/MethodHandle" ∧ yX7_wornAt.cls ≠ "java/lang/invoke/VarHandle" ∧ (parseMethodDescriptor yX7_wornAt.desc).map (fun d => d.parameters.length) = some 1 := by decide +kernel
theorem kmw_wornAt {X : JC} {Q : State → Prop} {nL k n pc : Nat} {lv : List (Nat × Value)} {st : List Value} {own : String} {cc : ByteArray} {ret : Option FieldType} {F LL mc ms ix : Nat} {D : va_G} {dA ad : Nat → Nat} {x1 : Int32} {u : MS} {Post : Int32 → MS → Prop} (hX : JX X own cc nL ret F LL mc ms) (hK : KM D dA (jj_s X)) (hD : MD ad) (hlk : (Cond.methodLink own ix yX7_wornAt) ∈ lw_all) (hF : 1 + 1 ≤ F) (hL : 8 + (2 + 11) + 21 ≤ LL) (hk : k ≤ mc) (hk2 : n ≤ ms) (hw : (st.map fun v => v.category).sum ≤ 8) (d : decode cc pc = .ok (.invokevirtual ix, 3)) (q : Nat) (hq : pc + 3 = q) (h : mw_wornAt x1 u Post) (kk : ∀ (r : Int32) (u2 : MS), Post r u2 → JJ X (AM ad) Q nL (MW D dA ad u2) k n q lv (.int r :: st)) : JJ X (AM ad) Q nL (MW D dA ad u) k n pc lv (.int x1 :: .ref (ad 0) :: st) :=
  jm_calli (na := 1) (As := [.int x1]) hX hK (mmw_wornAt (jj_l X) D dA ad hD x1 u Post h) hlk q2173 q2174 q129 q2175 hd_mw_wornAt rfl rfl hw hF hL hk hk2 d q hq kk
def mw_tellsBy_L6_S (Post : Int32 → MS → Prop) (x1 : Int64) (x3 : Int64) (R : Int64 → Int64 → MS → Prop) (x5 : Int64) (x7 : Int64) (u : MS) : Prop :=
  ((lg_cmp x7 (0 : Int64)) = 0 →
    ¬ x5 = 0 ∧
    ∀ u36 : MS, u36 = jm_sl u 0 2 (x1 / x5) →
    ¬ x5 = 0 ∧
    ∀ u44 : MS, u44 = jm_sl u36 0 3 (x3 / x5) →
    mw_is (0 : Int32) u44 (fun r49 u49 =>
      Post r49 u49)) ∧
  (¬ (lg_cmp x7 (0 : Int64)) = 0 →
    ¬ x7 = 0 ∧
    ∀ v18 : Int64, v18 = (x5 - x5 / x7 * x7) →
    R x7 v18 u)
def mw_tellsBy_L6 (Post : Int32 → MS → Prop) (x1 : Int64) (x3 : Int64) : Nat → Int64 → Int64 → MS → Prop
  | 0 => fun _ _ _ => False
  | n + 1 => fun x5 x7 u => mw_tellsBy_L6_S Post x1 x3 (mw_tellsBy_L6 Post x1 x3 n) x5 x7 u
/-- RaisedPressModel.tellsBy(JJ)Z -/
def mw_tellsBy (x1 : Int64) (x3 : Int64) (u : MS) (Post : Int32 → MS → Prop) : Prop :=
  ∃ n, mw_tellsBy_L6 Post x1 x3 n x1 x3 u
set_option maxHeartbeats 4000000 in
set_option maxRecDepth 100000 in
theorem tmw_tellsBy_L6 {X : JC} {D : va_G} {dA ad : Nat → Nat} {Post : Int32 → MS → Prop} {x1 : Int64} {x3 : Int64} (hX : JX X yX7_tellsBy.cls cX7_tellsBy 11 (Option.some Jvm.ClassFile.FieldType.boolean) 1 21 0 0) (hK : KM D dA (jj_s X)) (hD : MD ad) : ∀ (n : Nat) (x5 : Int64) (x7 : Int64) (u : MS), mw_tellsBy_L6 Post x1 x3 n x5 x7 u → JJ X (AM ad) (jj_Q X (va_Qi (fun r u => Post r u ∧ jj_z r) (jm_B D dA ad) (AM ad)) 0 0 (AM ad)) 11 (MW D dA ad u) 0 0 6 [(0, .ref (ad 0)), (1, .long x1), (3, .long x3), (5, .long x5), (7, .long x7)] [] := by
  intro n
  induction n with
  | zero =>
    intro x5 x7 u h
    exact h.elim
  | succ n ih =>
    intro x5 x7 u h
    have h : mw_tellsBy_L6_S Post x1 x3 (mw_tellsBy_L6 Post x1 x3 n) x5 x7 u := h
    unfold mw_tellsBy_L6_S at h
    refine jj_lload hX dX7_tellsBy_6 4 rfl 8 rfl ?_
    refine jj_lconst (v := 0) hX dX7_tellsBy_8 (by decide) 9 rfl ?_
    refine jj_lcmp hX dX7_tellsBy_9 10 rfl ?_
    refine jj_if_eq hX dX7_tellsBy_10 31 13 (by decide) rfl (fun c10 => ?_) (fun c10 => ?_)
    · have h := h.1 c10
      refine jj_aload_n hX dX7_tellsBy_31 0 rfl 32 rfl ?_
      refine jj_lload_n hX dX7_tellsBy_32 1 rfl 33 rfl ?_
      refine jj_lload hX dX7_tellsBy_33 3 rfl 35 rfl ?_
      obtain ⟨hn35, h⟩ := h
      refine jj_ldiv hX dX7_tellsBy_35 hn35 36 rfl ?_
      refine jp_2 hX hK hD dX7_tellsBy_36 q1486 39 rfl (fun u36 e36 => ?_)
      have h := h u36 e36
      refine jj_aload_n hX dX7_tellsBy_39 0 rfl 40 rfl ?_
      refine jj_lload_n hX dX7_tellsBy_40 2 rfl 41 rfl ?_
      refine jj_lload hX dX7_tellsBy_41 3 rfl 43 rfl ?_
      obtain ⟨hn43, h⟩ := h
      refine jj_ldiv hX dX7_tellsBy_43 hn43 44 rfl ?_
      refine jp_3 hX hK hD dX7_tellsBy_44 q1487 47 rfl (fun u44 e44 => ?_)
      have h := h u44 e44
      refine jj_aload_n hX dX7_tellsBy_47 0 rfl 48 rfl ?_
      refine jj_iconst hX dX7_tellsBy_48 ci_0 49 rfl ?_
      refine kmw_is hX hK hD q1642 (Nat.le_of_ble_eq_true rfl) (Nat.le_of_ble_eq_true rfl) (Nat.zero_le _) (Nat.zero_le _) (Nat.le_of_ble_eq_true rfl) dX7_tellsBy_49 52 rfl h (fun r49 u49 hb49 h => ?_)
      exact jj_retz (post := Post) (u := u49) hX dX7_tellsBy_52 (Nat.le_refl 0) (Nat.le_refl 0) jm_hB hb49 h
    · have h := h.2 c10
      refine jj_lload hX dX7_tellsBy_13 3 rfl 15 rfl ?_
      refine jj_lload hX dX7_tellsBy_15 4 rfl 17 rfl ?_
      obtain ⟨hn17, h⟩ := h
      refine jj_lrem hX dX7_tellsBy_17 hn17 18 rfl ?_
      refine jj_topl (fun v18 e18 => ?_)
      have h := h v18 e18
      refine jj_lstore (lv2 := [(0, .ref (ad 0)), (1, .long x1), (3, .long x3), (7, .long x7), (9, .long v18)]) hX dX7_tellsBy_18 (Nat.le_of_ble_eq_true rfl) [1, 2, 3, 5, 0] rfl 20 rfl ?_
      refine jj_lload hX dX7_tellsBy_20 3 rfl 22 rfl ?_
      refine jj_lstore (lv2 := [(0, .ref (ad 0)), (1, .long x1), (3, .long x3), (5, .long x7), (9, .long v18)]) hX dX7_tellsBy_22 (Nat.le_of_ble_eq_true rfl) [1, 2, 3, 0, 5] rfl 24 rfl ?_
      refine jj_lload hX dX7_tellsBy_24 4 rfl 26 rfl ?_
      refine jj_lstore (lv2 := [(0, .ref (ad 0)), (1, .long x1), (3, .long x3), (5, .long x7), (7, .long v18)]) hX dX7_tellsBy_26 (Nat.le_of_ble_eq_true rfl) [1, 2, 3, 4, 0] rfl 28 rfl ?_
      refine jj_goto hX dX7_tellsBy_28 6 (by decide) ?_
      exact ih _ _ _ h
set_option maxHeartbeats 4000000 in
set_option maxRecDepth 100000 in
theorem mmw_tellsBy (l : Launch) (D : va_G) (dA ad : Nat → Nat) (hD : MD ad) (x1 : Int64) (x3 : Int64) (u : MS) (Post : Int32 → MS → Prop) (h : mw_tellsBy x1 x3 u Post) : Met l yX7_tellsBy (ws_ yX7_tellsBy cX7_tellsBy 11 (Option.some Jvm.ClassFile.FieldType.boolean)) (jm_rm 1 21) (jm_Pc D dA ad u [.long x1, .long x3]) (va_Qi (fun r u => Post r u ∧ jj_z r) (jm_B D dA ad) (AM ad)) 0 0 (AM ad) := by
  refine jm_start [.long x1, .long x3] [(0, .ref (ad 0)), (1, .long x1), (3, .long x3)] (by decide) (Nat.le_of_ble_eq_true rfl) rfl (fun X hX hK => ?_)
  unfold mw_tellsBy at h
  refine jj_lload_n hX dX7_tellsBy_0 1 rfl 1 rfl ?_
  refine jj_lstore (lv2 := [(0, .ref (ad 0)), (1, .long x1), (3, .long x3), (5, .long x1)]) hX dX7_tellsBy_1 (Nat.le_of_ble_eq_true rfl) [1, 2, 3, 0] rfl 3 rfl ?_
  refine jj_lload_n hX dX7_tellsBy_3 2 rfl 4 rfl ?_
  refine jj_lstore (lv2 := [(0, .ref (ad 0)), (1, .long x1), (3, .long x3), (5, .long x1), (7, .long x3)]) hX dX7_tellsBy_4 (Nat.le_of_ble_eq_true rfl) [1, 2, 3, 4, 0] rfl 6 rfl ?_
  obtain ⟨n9, h⟩ := h
  exact tmw_tellsBy_L6 hX hK hD n9 _ _ _ h
theorem hd_mw_tellsBy : yX7_tellsBy.cls = RX7 ∧ yX7_tellsBy.cls ≠ "java/lang/invoke/MethodHandle" ∧ yX7_tellsBy.cls ≠ "java/lang/invoke/VarHandle" ∧ (parseMethodDescriptor yX7_tellsBy.desc).map (fun d => d.parameters.length) = some 2 := by decide +kernel
theorem kmw_tellsBy {X : JC} {Q : State → Prop} {nL k n pc : Nat} {lv : List (Nat × Value)} {st : List Value} {own : String} {cc : ByteArray} {ret : Option FieldType} {F LL mc ms ix : Nat} {D : va_G} {dA ad : Nat → Nat} {x1 : Int64} {x3 : Int64} {u : MS} {Post : Int32 → MS → Prop} (hX : JX X own cc nL ret F LL mc ms) (hK : KM D dA (jj_s X)) (hD : MD ad) (hlk : (Cond.methodLink own ix yX7_tellsBy) ∈ lw_all) (hF : 1 + 1 ≤ F) (hL : 8 + (11 + 11) + 21 ≤ LL) (hk : k ≤ mc) (hk2 : n ≤ ms) (hw : (st.map fun v => v.category).sum ≤ 8) (d : decode cc pc = .ok (.invokevirtual ix, 3)) (q : Nat) (hq : pc + 3 = q) (h : mw_tellsBy x1 x3 u Post) (kk : ∀ (r : Int32) (u2 : MS), jj_z r → Post r u2 → JJ X (AM ad) Q nL (MW D dA ad u2) k n q lv (.int r :: st)) : JJ X (AM ad) Q nL (MW D dA ad u) k n pc lv (.long x3 :: .long x1 :: .ref (ad 0) :: st) :=
  jm_callz (na := 2) (As := [.long x1, .long x3]) hX hK (mmw_tellsBy (jj_l X) D dA ad hD x1 x3 u Post h) hlk q2183 qs117 q129 q2184 hd_mw_tellsBy rfl rfl hw hF hL hk hk2 d q hq kk
def mw_odds_B47 (Post : Int32 → MS → Prop) (u : MS) : Prop :=
  mw_is (1 : Int32) u (fun r49 u49 =>
    Post r49 u49)
def mw_odds_L105_S (K73 : Int32 → Int32 → MS → Prop) (Post : Int32 → MS → Prop) (x1 : Int32) (x2 : Int32) (x3 : Int32) (x4 : Int32) (x5 : Int32) (R : Int32 → Int32 → MS → Prop) (x7 : Int32) (x8 : Int32) (u : MS) : Prop :=
  ((jm_i u 1 8) ≤ x8 →
    (x7 = 0 →
      ∀ v172 : Int32, v172 = (x4 + (0 : Int32)) →
      ∀ v174 : Int32, v174 = x5 + (1 : Int32) →
      K73 v172 v174 u) ∧
    (¬ x7 = 0 →
      ∀ v172 : Int32, v172 = (x4 + (1 : Int32)) →
      ∀ v174 : Int32, v174 = x5 + (1 : Int32) →
      K73 v172 v174 u)) ∧
  (¬ (jm_i u 1 8) ≤ x8 →
    (x7 = 0 →
      ∀ v153 : Int32, v153 = x8 + (1 : Int32) →
      R (0 : Int32) v153 u) ∧
    (¬ x7 = 0 →
      vp_in ((600 : Int32) + x8) 19800 ∧
      ((jm_i u 1 ((600 : Int32) + x8).toNatClampNeg) = 0 →
        ∀ v153 : Int32, v153 = x8 + (1 : Int32) →
        R (1 : Int32) v153 u) ∧
      (¬ (jm_i u 1 ((600 : Int32) + x8).toNatClampNeg) = 0 →
        vp_in x8 1250 ∧
        ((jm_i u 21 x8.toNatClampNeg) = 0 →
          ∀ v153 : Int32, v153 = x8 + (1 : Int32) →
          R (0 : Int32) v153 u) ∧
        (¬ (jm_i u 21 x8.toNatClampNeg) = 0 →
          ∀ v153 : Int32, v153 = x8 + (1 : Int32) →
          R (1 : Int32) v153 u))))
def mw_odds_L105 (K73 : Int32 → Int32 → MS → Prop) (Post : Int32 → MS → Prop) (x1 : Int32) (x2 : Int32) (x3 : Int32) (x4 : Int32) (x5 : Int32) : Nat → Int32 → Int32 → MS → Prop
  | 0 => fun _ _ _ => False
  | n + 1 => fun x7 x8 u => mw_odds_L105_S K73 Post x1 x2 x3 x4 x5 (mw_odds_L105 K73 Post x1 x2 x3 x4 x5 n) x7 x8 u
def mw_odds_L73_S (Post : Int32 → MS → Prop) (x1 : Int32) (x2 : Int32) (x3 : Int32) (R : Int32 → Int32 → MS → Prop) (x4 : Int32) (x5 : Int32) (u : MS) : Prop :=
  (x2 ≤ x5 →
    mw_tellsBy x4.toInt64 x2.toInt64 u (fun r186 u186 =>
      Post r186 u186)) ∧
  (¬ x2 ≤ x5 →
    mw_wears (x1 + x5) x3 u (fun r85 u85 =>
      (r85 < 0 →
        ∃ n, mw_odds_L105 R Post x1 x2 x3 x4 x5 n (0 : Int32) (0 : Int32) u85) ∧
      (¬ r85 < 0 →
        ∃ n, mw_odds_L105 R Post x1 x2 x3 x4 x5 n (1 : Int32) (0 : Int32) u85)))
def mw_odds_L73 (Post : Int32 → MS → Prop) (x1 : Int32) (x2 : Int32) (x3 : Int32) : Nat → Int32 → Int32 → MS → Prop
  | 0 => fun _ _ _ => False
  | n + 1 => fun x4 x5 u => mw_odds_L73_S Post x1 x2 x3 (mw_odds_L73 Post x1 x2 x3 n) x4 x5 u
/-- RaisedPressModel.odds(III)Z -/
def mw_odds (x1 : Int32) (x2 : Int32) (x3 : Int32) (u : MS) (Post : Int32 → MS → Prop) : Prop :=
  mw_isFrom x1.toInt64 (0 : Int64) (9999 : Int64) (fun r6 =>
    (r6 = 0 →
      mw_odds_B47 Post u) ∧
    (¬ r6 = 0 →
      mw_isFrom x2.toInt64 (1 : Int64) (20 : Int64) (fun r18 =>
        (r18 = 0 →
          mw_odds_B47 Post u) ∧
        (¬ r18 = 0 →
          ((9999 : Int32) < ((x1 + x2) - (1 : Int32)) →
            mw_odds_B47 Post u) ∧
          (¬ (9999 : Int32) < ((x1 + x2) - (1 : Int32)) →
            mw_isFrom x3.toInt64 (0 : Int64) (16 : Int64) (fun r41 =>
              (¬ r41 = 0 →
                mw_isSet u (fun r54 u54 =>
                  (¬ r54 = 0 →
                    ∃ n, mw_odds_L73 Post x1 x2 x3 n (0 : Int32) (0 : Int32) u54) ∧
                  (r54 = 0 →
                    mw_is (6 : Int32) u54 (fun r63 u63 =>
                      Post r63 u63)))) ∧
              (r41 = 0 →
                mw_odds_B47 Post u)))))))
set_option maxHeartbeats 4000000 in
set_option maxRecDepth 100000 in
theorem tmw_odds_B47 {X : JC} {D : va_G} {dA ad : Nat → Nat} {Post : Int32 → MS → Prop} {u : MS} (hX : JX X yX7_odds.cls cX7_odds 9 (Option.some Jvm.ClassFile.FieldType.boolean) 2 51 0 0) (hK : KM D dA (jj_s X)) (hD : MD ad) (h : mw_odds_B47 Post  u) : JJ X (AM ad) (jj_Q X (va_Qi (fun r u => Post r u ∧ jj_z r) (jm_B D dA ad) (AM ad)) 0 0 (AM ad)) 9 (MW D dA ad u) 0 0 47 [(0, .ref (ad 0))] [] := by
  unfold mw_odds_B47 at h
  refine jj_aload_n hX dX7_odds_47 0 rfl 48 rfl ?_
  refine jj_iconst hX dX7_odds_48 ci_1 49 rfl ?_
  refine kmw_is hX hK hD q1642 (Nat.le_of_ble_eq_true rfl) (Nat.le_of_ble_eq_true rfl) (Nat.zero_le _) (Nat.zero_le _) (Nat.le_of_ble_eq_true rfl) dX7_odds_49 52 rfl h (fun r49 u49 hb49 h => ?_)
  exact jj_retz (post := Post) (u := u49) hX dX7_odds_52 (Nat.le_refl 0) (Nat.le_refl 0) jm_hB hb49 h
set_option maxHeartbeats 4000000 in
set_option maxRecDepth 100000 in
theorem tmw_odds_L105 {X : JC} {D : va_G} {dA ad : Nat → Nat} {K73 : Int32 → Int32 → MS → Prop} {Post : Int32 → MS → Prop} {x1 : Int32} {x2 : Int32} {x3 : Int32} {x4 : Int32} {x5 : Int32} (hX : JX X yX7_odds.cls cX7_odds 9 (Option.some Jvm.ClassFile.FieldType.boolean) 2 51 0 0) (hK : KM D dA (jj_s X)) (hD : MD ad) (hK73 : ∀ (y4 : Int32) (y5 : Int32) (u : MS), K73 y4 y5 u → JJ X (AM ad) (jj_Q X (va_Qi (fun r u => Post r u ∧ jj_z r) (jm_B D dA ad) (AM ad)) 0 0 (AM ad)) 9 (MW D dA ad u) 0 0 73 [(0, .ref (ad 0)), (1, .int x1), (2, .int x2), (3, .int x3), (4, .int y4), (5, .int y5)] []) : ∀ (n : Nat) (x7 : Int32) (x8 : Int32) (u : MS), mw_odds_L105 K73 Post x1 x2 x3 x4 x5 n x7 x8 u → JJ X (AM ad) (jj_Q X (va_Qi (fun r u => Post r u ∧ jj_z r) (jm_B D dA ad) (AM ad)) 0 0 (AM ad)) 9 (MW D dA ad u) 0 0 105 [(0, .ref (ad 0)), (1, .int x1), (2, .int x2), (3, .int x3), (4, .int x4), (5, .int x5), (7, .int x7), (8, .int x8)] [] := by
  intro n
  induction n with
  | zero =>
    intro x7 x8 u h
    exact h.elim
  | succ n ih =>
    intro x7 x8 u h
    have h : mw_odds_L105_S K73 Post x1 x2 x3 x4 x5 (mw_odds_L105 K73 Post x1 x2 x3 x4 x5 n) x7 x8 u := h
    unfold mw_odds_L105_S at h
    refine jj_iload hX dX7_odds_105 7 rfl 107 rfl ?_
    refine jt_0 hX hK dX7_odds_107 0 rfl dX7_odds_108 q1484 111 rfl rfl ?_
    refine jj_bipush hX dX7_odds_111 cb_8 113 rfl ?_
    refine jr_1 hX hK 8 kc_8 vi_1_8 dX7_odds_113 114 rfl ?_
    refine jj_icmp_ge hX dX7_odds_114 159 117 (by decide) rfl (fun c114 => ?_) (fun c114 => ?_)
    · have h := h.1 c114
      refine jj_iload hX dX7_odds_159 4 rfl 161 rfl ?_
      refine jj_iload hX dX7_odds_161 6 rfl 163 rfl ?_
      refine jj_if_eq hX dX7_odds_163 170 166 (by decide) rfl (fun c163 => ?_) (fun c163 => ?_)
      · have h := h.1 c163
        refine jj_iconst hX dX7_odds_170 ci_0 171 rfl ?_
        refine jj_iadd hX dX7_odds_171 172 rfl ?_
        refine jj_topi (fun v172 e172 => ?_)
        have h := h v172 e172
        refine jj_istore (lv2 := [(0, .ref (ad 0)), (1, .int x1), (2, .int x2), (3, .int x3), (4, .int v172), (5, .int x5)]) hX dX7_odds_172 (Nat.le_of_ble_eq_true rfl) [1, 2, 3, 4, 0, 5] rfl 174 rfl ?_
        obtain ⟨v174, e174⟩ : ∃ y : Int32, y = x5 + (1 : Int32) := ⟨_, rfl⟩
        have h := h v174 e174
        refine jj_iinc (v := v174) (lv2 := [(0, .ref (ad 0)), (1, .int x1), (2, .int x2), (3, .int x3), (4, .int v172), (5, .int v174)]) hX dX7_odds_174 5 rfl (by rw [e174, ci_1]) (Nat.le_of_ble_eq_true rfl) [1, 2, 3, 4, 5, 0] rfl 177 rfl ?_
        refine jj_goto hX dX7_odds_177 73 (by decide) ?_
        exact hK73 _ _ _ h
      · have h := h.2 c163
        refine jj_iconst hX dX7_odds_166 ci_1 167 rfl ?_
        refine jj_goto hX dX7_odds_167 171 (by decide) ?_
        refine jj_iadd hX dX7_odds_171 172 rfl ?_
        refine jj_topi (fun v172 e172 => ?_)
        have h := h v172 e172
        refine jj_istore (lv2 := [(0, .ref (ad 0)), (1, .int x1), (2, .int x2), (3, .int x3), (4, .int v172), (5, .int x5)]) hX dX7_odds_172 (Nat.le_of_ble_eq_true rfl) [1, 2, 3, 4, 0, 5] rfl 174 rfl ?_
        obtain ⟨v174, e174⟩ : ∃ y : Int32, y = x5 + (1 : Int32) := ⟨_, rfl⟩
        have h := h v174 e174
        refine jj_iinc (v := v174) (lv2 := [(0, .ref (ad 0)), (1, .int x1), (2, .int x2), (3, .int x3), (4, .int v172), (5, .int v174)]) hX dX7_odds_174 5 rfl (by rw [e174, ci_1]) (Nat.le_of_ble_eq_true rfl) [1, 2, 3, 4, 5, 0] rfl 177 rfl ?_
        refine jj_goto hX dX7_odds_177 73 (by decide) ?_
        exact hK73 _ _ _ h
    · have h := h.2 c114
      refine jj_iload hX dX7_odds_117 6 rfl 119 rfl ?_
      refine jj_if_eq hX dX7_odds_119 150 122 (by decide) rfl (fun c119 => ?_) (fun c119 => ?_)
      · have h := h.1 c119
        refine jj_iconst hX dX7_odds_150 ci_0 151 rfl ?_
        refine jj_istore (lv2 := [(0, .ref (ad 0)), (1, .int x1), (2, .int x2), (3, .int x3), (4, .int x4), (5, .int x5), (7, .int (0 : Int32)), (8, .int x8)]) hX dX7_odds_151 (Nat.le_of_ble_eq_true rfl) [1, 2, 3, 4, 5, 6, 0, 7] rfl 153 rfl ?_
        obtain ⟨v153, e153⟩ : ∃ y : Int32, y = x8 + (1 : Int32) := ⟨_, rfl⟩
        have h := h v153 e153
        refine jj_iinc (v := v153) (lv2 := [(0, .ref (ad 0)), (1, .int x1), (2, .int x2), (3, .int x3), (4, .int x4), (5, .int x5), (7, .int (0 : Int32)), (8, .int v153)]) hX dX7_odds_153 7 rfl (by rw [e153, ci_1]) (Nat.le_of_ble_eq_true rfl) [1, 2, 3, 4, 5, 6, 7, 0] rfl 156 rfl ?_
        refine jj_goto hX dX7_odds_156 105 (by decide) ?_
        exact ih _ _ _ h
      · have h := h.2 c119
        refine jt_0 hX hK dX7_odds_122 0 rfl dX7_odds_123 q1484 126 rfl rfl ?_
        refine jj_sipush hX dX7_odds_126 cs_600 129 rfl ?_
        refine jj_iload hX dX7_odds_129 7 rfl 131 rfl ?_
        refine jj_iadd hX dX7_odds_131 132 rfl ?_
        obtain ⟨hi132, h⟩ := h
        refine jr_1 hX hK _ rfl hi132 dX7_odds_132 133 rfl ?_
        refine jj_if_eq hX dX7_odds_133 146 136 (by decide) rfl (fun c133 => ?_) (fun c133 => ?_)
        · have h := h.1 c133
          refine jj_iconst hX dX7_odds_146 ci_1 147 rfl ?_
          refine jj_goto hX dX7_odds_147 151 (by decide) ?_
          refine jj_istore (lv2 := [(0, .ref (ad 0)), (1, .int x1), (2, .int x2), (3, .int x3), (4, .int x4), (5, .int x5), (7, .int (1 : Int32)), (8, .int x8)]) hX dX7_odds_151 (Nat.le_of_ble_eq_true rfl) [1, 2, 3, 4, 5, 6, 0, 7] rfl 153 rfl ?_
          obtain ⟨v153, e153⟩ : ∃ y : Int32, y = x8 + (1 : Int32) := ⟨_, rfl⟩
          have h := h v153 e153
          refine jj_iinc (v := v153) (lv2 := [(0, .ref (ad 0)), (1, .int x1), (2, .int x2), (3, .int x3), (4, .int x4), (5, .int x5), (7, .int (1 : Int32)), (8, .int v153)]) hX dX7_odds_153 7 rfl (by rw [e153, ci_1]) (Nat.le_of_ble_eq_true rfl) [1, 2, 3, 4, 5, 6, 7, 0] rfl 156 rfl ?_
          refine jj_goto hX dX7_odds_156 105 (by decide) ?_
          exact ih _ _ _ h
        · have h := h.2 c133
          refine jt_43 hX hK dX7_odds_136 0 rfl dX7_odds_137 q1527 140 rfl rfl ?_
          refine jj_iload hX dX7_odds_140 7 rfl 142 rfl ?_
          obtain ⟨hi142, h⟩ := h
          refine jr_21 hX hK _ rfl hi142 dX7_odds_142 143 rfl ?_
          refine jj_if_eq hX dX7_odds_143 150 146 (by decide) rfl (fun c143 => ?_) (fun c143 => ?_)
          · have h := h.1 c143
            refine jj_iconst hX dX7_odds_150 ci_0 151 rfl ?_
            refine jj_istore (lv2 := [(0, .ref (ad 0)), (1, .int x1), (2, .int x2), (3, .int x3), (4, .int x4), (5, .int x5), (7, .int (0 : Int32)), (8, .int x8)]) hX dX7_odds_151 (Nat.le_of_ble_eq_true rfl) [1, 2, 3, 4, 5, 6, 0, 7] rfl 153 rfl ?_
            obtain ⟨v153, e153⟩ : ∃ y : Int32, y = x8 + (1 : Int32) := ⟨_, rfl⟩
            have h := h v153 e153
            refine jj_iinc (v := v153) (lv2 := [(0, .ref (ad 0)), (1, .int x1), (2, .int x2), (3, .int x3), (4, .int x4), (5, .int x5), (7, .int (0 : Int32)), (8, .int v153)]) hX dX7_odds_153 7 rfl (by rw [e153, ci_1]) (Nat.le_of_ble_eq_true rfl) [1, 2, 3, 4, 5, 6, 7, 0] rfl 156 rfl ?_
            refine jj_goto hX dX7_odds_156 105 (by decide) ?_
            exact ih _ _ _ h
          · have h := h.2 c143
            refine jj_iconst hX dX7_odds_146 ci_1 147 rfl ?_
            refine jj_goto hX dX7_odds_147 151 (by decide) ?_
            refine jj_istore (lv2 := [(0, .ref (ad 0)), (1, .int x1), (2, .int x2), (3, .int x3), (4, .int x4), (5, .int x5), (7, .int (1 : Int32)), (8, .int x8)]) hX dX7_odds_151 (Nat.le_of_ble_eq_true rfl) [1, 2, 3, 4, 5, 6, 0, 7] rfl 153 rfl ?_
            obtain ⟨v153, e153⟩ : ∃ y : Int32, y = x8 + (1 : Int32) := ⟨_, rfl⟩
            have h := h v153 e153
            refine jj_iinc (v := v153) (lv2 := [(0, .ref (ad 0)), (1, .int x1), (2, .int x2), (3, .int x3), (4, .int x4), (5, .int x5), (7, .int (1 : Int32)), (8, .int v153)]) hX dX7_odds_153 7 rfl (by rw [e153, ci_1]) (Nat.le_of_ble_eq_true rfl) [1, 2, 3, 4, 5, 6, 7, 0] rfl 156 rfl ?_
            refine jj_goto hX dX7_odds_156 105 (by decide) ?_
            exact ih _ _ _ h
set_option maxHeartbeats 4000000 in
set_option maxRecDepth 100000 in
theorem tmw_odds_L73 {X : JC} {D : va_G} {dA ad : Nat → Nat} {Post : Int32 → MS → Prop} {x1 : Int32} {x2 : Int32} {x3 : Int32} (hX : JX X yX7_odds.cls cX7_odds 9 (Option.some Jvm.ClassFile.FieldType.boolean) 2 51 0 0) (hK : KM D dA (jj_s X)) (hD : MD ad) : ∀ (n : Nat) (x4 : Int32) (x5 : Int32) (u : MS), mw_odds_L73 Post x1 x2 x3 n x4 x5 u → JJ X (AM ad) (jj_Q X (va_Qi (fun r u => Post r u ∧ jj_z r) (jm_B D dA ad) (AM ad)) 0 0 (AM ad)) 9 (MW D dA ad u) 0 0 73 [(0, .ref (ad 0)), (1, .int x1), (2, .int x2), (3, .int x3), (4, .int x4), (5, .int x5)] [] := by
  intro n
  induction n with
  | zero =>
    intro x4 x5 u h
    exact h.elim
  | succ n ih =>
    intro x4 x5 u h
    have h : mw_odds_L73_S Post x1 x2 x3 (mw_odds_L73 Post x1 x2 x3 n) x4 x5 u := h
    unfold mw_odds_L73_S at h
    refine jj_iload hX dX7_odds_73 5 rfl 75 rfl ?_
    refine jj_iload_n hX dX7_odds_75 2 rfl 76 rfl ?_
    refine jj_icmp_ge hX dX7_odds_76 180 79 (by decide) rfl (fun c76 => ?_) (fun c76 => ?_)
    · have h := h.1 c76
      refine jj_aload_n hX dX7_odds_180 0 rfl 181 rfl ?_
      refine jj_iload hX dX7_odds_181 4 rfl 183 rfl ?_
      refine jj_i2l hX dX7_odds_183 184 rfl ?_
      refine jj_iload_n hX dX7_odds_184 2 rfl 185 rfl ?_
      refine jj_i2l hX dX7_odds_185 186 rfl ?_
      refine kmw_tellsBy hX hK hD q2181 (Nat.le_of_ble_eq_true rfl) (Nat.le_of_ble_eq_true rfl) (Nat.zero_le _) (Nat.zero_le _) (Nat.le_of_ble_eq_true rfl) dX7_odds_186 189 rfl h (fun r186 u186 hb186 h => ?_)
      exact jj_retz (post := Post) (u := u186) hX dX7_odds_189 (Nat.le_refl 0) (Nat.le_refl 0) jm_hB hb186 h
    · have h := h.2 c76
      refine jj_aload_n hX dX7_odds_79 0 rfl 80 rfl ?_
      refine jj_iload_n hX dX7_odds_80 1 rfl 81 rfl ?_
      refine jj_iload hX dX7_odds_81 5 rfl 83 rfl ?_
      refine jj_iadd hX dX7_odds_83 84 rfl ?_
      refine jj_iload_n hX dX7_odds_84 3 rfl 85 rfl ?_
      refine kmw_wears hX hK hD q2163 (Nat.le_of_ble_eq_true rfl) (Nat.le_of_ble_eq_true rfl) (Nat.zero_le _) (Nat.zero_le _) (Nat.le_of_ble_eq_true rfl) dX7_odds_85 88 rfl h (fun r85 u85 h => ?_)
      refine jj_istore (lv2 := [(0, .ref (ad 0)), (1, .int x1), (2, .int x2), (3, .int x3), (4, .int x4), (5, .int x5), (6, .int r85)]) hX dX7_odds_88 (Nat.le_of_ble_eq_true rfl) [1, 2, 3, 4, 5, 6, 0] rfl 90 rfl ?_
      refine jj_iload hX dX7_odds_90 6 rfl 92 rfl ?_
      refine jj_if_lt hX dX7_odds_92 99 95 (by decide) rfl (fun c92 => ?_) (fun c92 => ?_)
      · have h := h.1 c92
        refine jj_iconst hX dX7_odds_99 ci_0 100 rfl ?_
        refine jj_istore (lv2 := [(0, .ref (ad 0)), (1, .int x1), (2, .int x2), (3, .int x3), (4, .int x4), (5, .int x5), (7, .int (0 : Int32))]) hX dX7_odds_100 (Nat.le_of_ble_eq_true rfl) [1, 2, 3, 4, 5, 6, 0] rfl 102 rfl ?_
        refine jj_iconst hX dX7_odds_102 ci_0 103 rfl ?_
        refine jj_istore (lv2 := [(0, .ref (ad 0)), (1, .int x1), (2, .int x2), (3, .int x3), (4, .int x4), (5, .int x5), (7, .int (0 : Int32)), (8, .int (0 : Int32))]) hX dX7_odds_103 (Nat.le_of_ble_eq_true rfl) [1, 2, 3, 4, 5, 6, 7, 0] rfl 105 rfl ?_
        obtain ⟨n9, h⟩ := h
        exact tmw_odds_L105 hX hK hD ih n9 _ _ _ h
      · have h := h.2 c92
        refine jj_iconst hX dX7_odds_95 ci_1 96 rfl ?_
        refine jj_goto hX dX7_odds_96 100 (by decide) ?_
        refine jj_istore (lv2 := [(0, .ref (ad 0)), (1, .int x1), (2, .int x2), (3, .int x3), (4, .int x4), (5, .int x5), (7, .int (1 : Int32))]) hX dX7_odds_100 (Nat.le_of_ble_eq_true rfl) [1, 2, 3, 4, 5, 6, 0] rfl 102 rfl ?_
        refine jj_iconst hX dX7_odds_102 ci_0 103 rfl ?_
        refine jj_istore (lv2 := [(0, .ref (ad 0)), (1, .int x1), (2, .int x2), (3, .int x3), (4, .int x4), (5, .int x5), (7, .int (1 : Int32)), (8, .int (0 : Int32))]) hX dX7_odds_103 (Nat.le_of_ble_eq_true rfl) [1, 2, 3, 4, 5, 6, 7, 0] rfl 105 rfl ?_
        obtain ⟨n9, h⟩ := h
        exact tmw_odds_L105 hX hK hD ih n9 _ _ _ h
set_option maxHeartbeats 4000000 in
set_option maxRecDepth 100000 in
theorem mmw_odds (l : Launch) (D : va_G) (dA ad : Nat → Nat) (hD : MD ad) (x1 : Int32) (x2 : Int32) (x3 : Int32) (u : MS) (Post : Int32 → MS → Prop) (h : mw_odds x1 x2 x3 u Post) : Met l yX7_odds (ws_ yX7_odds cX7_odds 9 (Option.some Jvm.ClassFile.FieldType.boolean)) (jm_rm 2 51) (jm_Pc D dA ad u [.int x1, .int x2, .int x3]) (va_Qi (fun r u => Post r u ∧ jj_z r) (jm_B D dA ad) (AM ad)) 0 0 (AM ad) := by
  refine jm_start [.int x1, .int x2, .int x3] [(0, .ref (ad 0)), (1, .int x1), (2, .int x2), (3, .int x3)] (by decide) (Nat.le_of_ble_eq_true rfl) rfl (fun X hX hK => ?_)
  unfold mw_odds at h
  refine jj_iload_n hX dX7_odds_0 1 rfl 1 rfl ?_
  refine jj_i2l hX dX7_odds_1 2 rfl ?_
  refine jj_lconst (v := 0) hX dX7_odds_2 (by decide) 3 rfl ?_
  refine jj_ldc2 (v := 9999) hX dX7_odds_3 q2161 6 rfl ?_
  refine kmw_isFrom hX MW.keeps q1944 (Nat.le_of_ble_eq_true rfl) (Nat.le_of_ble_eq_true rfl) (Nat.zero_le _) (Nat.zero_le _) (Nat.le_of_ble_eq_true rfl) dX7_odds_6 9 rfl h (fun r6 hb6 h => ?_)
  refine jj_if_eq hX dX7_odds_9 47 12 (by decide) rfl (fun c9 => ?_) (fun c9 => ?_)
  · have h := h.1 c9
    refine jj_sub (lv2 := [(0, .ref (ad 0))]) [0] rfl ?_
    exact tmw_odds_B47 hX hK hD h
  · have h := h.2 c9
    refine jj_iload_n hX dX7_odds_12 2 rfl 13 rfl ?_
    refine jj_i2l hX dX7_odds_13 14 rfl ?_
    refine jj_lconst (v := 1) hX dX7_odds_14 (by decide) 15 rfl ?_
    refine jj_ldc2 (v := 20) hX dX7_odds_15 q2180 18 rfl ?_
    refine kmw_isFrom hX MW.keeps q1944 (Nat.le_of_ble_eq_true rfl) (Nat.le_of_ble_eq_true rfl) (Nat.zero_le _) (Nat.zero_le _) (Nat.le_of_ble_eq_true rfl) dX7_odds_18 21 rfl h (fun r18 hb18 h => ?_)
    refine jj_if_eq hX dX7_odds_21 47 24 (by decide) rfl (fun c21 => ?_) (fun c21 => ?_)
    · have h := h.1 c21
      refine jj_sub (lv2 := [(0, .ref (ad 0))]) [0] rfl ?_
      exact tmw_odds_B47 hX hK hD h
    · have h := h.2 c21
      refine jj_iload_n hX dX7_odds_24 1 rfl 25 rfl ?_
      refine jj_iload_n hX dX7_odds_25 2 rfl 26 rfl ?_
      refine jj_iadd hX dX7_odds_26 27 rfl ?_
      refine jj_iconst hX dX7_odds_27 ci_1 28 rfl ?_
      refine jj_isub hX dX7_odds_28 29 rfl ?_
      refine jj_sipush hX dX7_odds_29 cs_9999 32 rfl ?_
      refine jj_icmp_gt hX dX7_odds_32 47 35 (by decide) rfl (fun c32 => ?_) (fun c32 => ?_)
      · have h := h.1 c32
        refine jj_sub (lv2 := [(0, .ref (ad 0))]) [0] rfl ?_
        exact tmw_odds_B47 hX hK hD h
      · have h := h.2 c32
        refine jj_iload_n hX dX7_odds_35 3 rfl 36 rfl ?_
        refine jj_i2l hX dX7_odds_36 37 rfl ?_
        refine jj_lconst (v := 0) hX dX7_odds_37 (by decide) 38 rfl ?_
        refine jj_ldc2 (v := 16) hX dX7_odds_38 q2162 41 rfl ?_
        refine kmw_isFrom hX MW.keeps q1944 (Nat.le_of_ble_eq_true rfl) (Nat.le_of_ble_eq_true rfl) (Nat.zero_le _) (Nat.zero_le _) (Nat.le_of_ble_eq_true rfl) dX7_odds_41 44 rfl h (fun r41 hb41 h => ?_)
        refine jj_if_ne hX dX7_odds_44 53 47 (by decide) rfl (fun c44 => ?_) (fun c44 => ?_)
        · have h := h.1 c44
          refine jj_aload_n hX dX7_odds_53 0 rfl 54 rfl ?_
          refine kmw_isSet hX hK hD q1864 (Nat.le_of_ble_eq_true rfl) (Nat.le_of_ble_eq_true rfl) (Nat.zero_le _) (Nat.zero_le _) (Nat.le_of_ble_eq_true rfl) dX7_odds_54 57 rfl h (fun r54 u54 hb54 h => ?_)
          refine jj_if_ne hX dX7_odds_57 67 60 (by decide) rfl (fun c57 => ?_) (fun c57 => ?_)
          · have h := h.1 c57
            refine jj_iconst hX dX7_odds_67 ci_0 68 rfl ?_
            refine jj_istore (lv2 := [(0, .ref (ad 0)), (1, .int x1), (2, .int x2), (3, .int x3), (4, .int (0 : Int32))]) hX dX7_odds_68 (Nat.le_of_ble_eq_true rfl) [1, 2, 3, 4, 0] rfl 70 rfl ?_
            refine jj_iconst hX dX7_odds_70 ci_0 71 rfl ?_
            refine jj_istore (lv2 := [(0, .ref (ad 0)), (1, .int x1), (2, .int x2), (3, .int x3), (4, .int (0 : Int32)), (5, .int (0 : Int32))]) hX dX7_odds_71 (Nat.le_of_ble_eq_true rfl) [1, 2, 3, 4, 5, 0] rfl 73 rfl ?_
            obtain ⟨n9, h⟩ := h
            exact tmw_odds_L73 hX hK hD n9 _ _ _ h
          · have h := h.2 c57
            refine jj_aload_n hX dX7_odds_60 0 rfl 61 rfl ?_
            refine jj_bipush hX dX7_odds_61 cb_6 63 rfl ?_
            refine kmw_is hX hK hD q1642 (Nat.le_of_ble_eq_true rfl) (Nat.le_of_ble_eq_true rfl) (Nat.zero_le _) (Nat.zero_le _) (Nat.le_of_ble_eq_true rfl) dX7_odds_63 66 rfl h (fun r63 u63 hb63 h => ?_)
            exact jj_retz (post := Post) (u := u63) hX dX7_odds_66 (Nat.le_refl 0) (Nat.le_refl 0) jm_hB hb63 h
        · have h := h.2 c44
          refine jj_sub (lv2 := [(0, .ref (ad 0))]) [0] rfl ?_
          exact tmw_odds_B47 hX hK hD h
theorem hd_mw_odds : yX7_odds.cls = RX7 ∧ yX7_odds.cls ≠ "java/lang/invoke/MethodHandle" ∧ yX7_odds.cls ≠ "java/lang/invoke/VarHandle" ∧ (parseMethodDescriptor yX7_odds.desc).map (fun d => d.parameters.length) = some 3 := by decide +kernel
theorem kmw_odds {X : JC} {Q : State → Prop} {nL k n pc : Nat} {lv : List (Nat × Value)} {st : List Value} {own : String} {cc : ByteArray} {ret : Option FieldType} {F LL mc ms ix : Nat} {D : va_G} {dA ad : Nat → Nat} {x1 : Int32} {x2 : Int32} {x3 : Int32} {u : MS} {Post : Int32 → MS → Prop} (hX : JX X own cc nL ret F LL mc ms) (hK : KM D dA (jj_s X)) (hD : MD ad) (hlk : (Cond.methodLink own ix yX7_odds) ∈ lw_all) (hF : 2 + 1 ≤ F) (hL : 8 + (9 + 11) + 51 ≤ LL) (hk : k ≤ mc) (hk2 : n ≤ ms) (hw : (st.map fun v => v.category).sum ≤ 8) (d : decode cc pc = .ok (.invokevirtual ix, 3)) (q : Nat) (hq : pc + 3 = q) (h : mw_odds x1 x2 x3 u Post) (kk : ∀ (r : Int32) (u2 : MS), jj_z r → Post r u2 → JJ X (AM ad) Q nL (MW D dA ad u2) k n q lv (.int r :: st)) : JJ X (AM ad) Q nL (MW D dA ad u) k n pc lv (.int x3 :: .int x2 :: .int x1 :: .ref (ad 0) :: st) :=
  jm_callz (na := 3) (As := [.int x1, .int x2, .int x3]) hX hK (mmw_odds (jj_l X) D dA ad hD x1 x2 x3 u Post h) hlk q2177 q2178 q129 q2179 hd_mw_odds rfl rfl hw hF hL hk hk2 d q hq kk
def mw_copies_L2_S (Post : MS → Prop) (x1 : Int32) (x2 : Int32) (R : Int32 → MS → Prop) (x3 : Int32) (u : MS) : Prop :=
  ((3300 : Int32) ≤ x3 →
    Post u) ∧
  (¬ (3300 : Int32) ≤ x3 →
    vp_in (((3300 : Int32) * x1) + x3) 19800 ∧
    vp_in (((3300 : Int32) * x2) + x3) 19800 ∧
    ∀ u32 : MS, u32 = jm_s u 1 (((3300 : Int32) * x2) + x3).toNatClampNeg (jm_i u 1 (((3300 : Int32) * x1) + x3).toNatClampNeg) →
    ∀ v33 : Int32, v33 = x3 + (1 : Int32) →
    R v33 u32)
def mw_copies_L2 (Post : MS → Prop) (x1 : Int32) (x2 : Int32) : Nat → Int32 → MS → Prop
  | 0 => fun _ _ => False
  | n + 1 => fun x3 u => mw_copies_L2_S Post x1 x2 (mw_copies_L2 Post x1 x2 n) x3 u
/-- RaisedPressModel.copies(II)V -/
def mw_copies (x1 : Int32) (x2 : Int32) (u : MS) (Post : MS → Prop) : Prop :=
  ∃ n, mw_copies_L2 Post x1 x2 n (0 : Int32) u
set_option maxHeartbeats 4000000 in
set_option maxRecDepth 100000 in
theorem tmw_copies_L2 {X : JC} {D : va_G} {dA ad : Nat → Nat} {Post : MS → Prop} {x1 : Int32} {x2 : Int32} (hX : JX X yX7_copies.cls cX7_copies 4 (Option.none : Option Jvm.ClassFile.FieldType) 0 0 0 0) (hK : KM D dA (jj_s X)) (hD : MD ad) : ∀ (n : Nat) (x3 : Int32) (u : MS), mw_copies_L2 Post x1 x2 n x3 u → JJ X (AM ad) (jj_Q X (va_Qv Post (jm_B D dA ad) (AM ad)) 0 0 (AM ad)) 4 (MW D dA ad u) 0 0 2 [(0, .ref (ad 0)), (1, .int x1), (2, .int x2), (3, .int x3)] [] := by
  intro n
  induction n with
  | zero =>
    intro x3 u h
    exact h.elim
  | succ n ih =>
    intro x3 u h
    have h : mw_copies_L2_S Post x1 x2 (mw_copies_L2 Post x1 x2 n) x3 u := h
    unfold mw_copies_L2_S at h
    refine jj_iload_n hX dX7_copies_2 3 rfl 3 rfl ?_
    refine jj_sipush hX dX7_copies_3 cs_3300 6 rfl ?_
    refine jj_icmp_ge hX dX7_copies_6 39 9 (by decide) rfl (fun c6 => ?_) (fun c6 => ?_)
    · have h := h.1 c6
      exact jj_retv hX dX7_copies_39 (Nat.le_refl 0) (Nat.le_refl 0) jm_hB h
    · have h := h.2 c6
      refine jt_0 hX hK dX7_copies_9 0 rfl dX7_copies_10 q1484 13 rfl rfl ?_
      refine jj_sipush hX dX7_copies_13 cs_3300 16 rfl ?_
      refine jj_iload_n hX dX7_copies_16 2 rfl 17 rfl ?_
      refine jj_imul hX dX7_copies_17 18 rfl ?_
      refine jj_iload_n hX dX7_copies_18 3 rfl 19 rfl ?_
      refine jj_iadd hX dX7_copies_19 20 rfl ?_
      refine jt_0 hX hK dX7_copies_20 0 rfl dX7_copies_21 q1484 24 rfl rfl ?_
      refine jj_sipush hX dX7_copies_24 cs_3300 27 rfl ?_
      refine jj_iload_n hX dX7_copies_27 1 rfl 28 rfl ?_
      refine jj_imul hX dX7_copies_28 29 rfl ?_
      refine jj_iload_n hX dX7_copies_29 3 rfl 30 rfl ?_
      refine jj_iadd hX dX7_copies_30 31 rfl ?_
      obtain ⟨hi31, h⟩ := h
      refine jr_1 hX hK _ rfl hi31 dX7_copies_31 32 rfl ?_
      obtain ⟨hi32, h⟩ := h
      refine jw_1 hX hK hD _ rfl hi32 dX7_copies_32 33 rfl (fun u32 e32 => ?_)
      have h := h u32 e32
      obtain ⟨v33, e33⟩ : ∃ y : Int32, y = x3 + (1 : Int32) := ⟨_, rfl⟩
      have h := h v33 e33
      refine jj_iinc (v := v33) (lv2 := [(0, .ref (ad 0)), (1, .int x1), (2, .int x2), (3, .int v33)]) hX dX7_copies_33 3 rfl (by rw [e33, ci_1]) (Nat.le_of_ble_eq_true rfl) [1, 2, 3, 0] rfl 36 rfl ?_
      refine jj_goto hX dX7_copies_36 2 (by decide) ?_
      exact ih _ _ h
set_option maxHeartbeats 4000000 in
set_option maxRecDepth 100000 in
theorem mmw_copies (l : Launch) (D : va_G) (dA ad : Nat → Nat) (hD : MD ad) (x1 : Int32) (x2 : Int32) (u : MS) (Post : MS → Prop) (h : mw_copies x1 x2 u Post) : Met l yX7_copies (ws_ yX7_copies cX7_copies 4 (Option.none : Option Jvm.ClassFile.FieldType)) (jm_rm 0 0) (jm_Pc D dA ad u [.int x1, .int x2]) (va_Qv Post (jm_B D dA ad) (AM ad)) 0 0 (AM ad) := by
  refine jm_start [.int x1, .int x2] [(0, .ref (ad 0)), (1, .int x1), (2, .int x2)] (by decide) (Nat.le_of_ble_eq_true rfl) rfl (fun X hX hK => ?_)
  unfold mw_copies at h
  refine jj_iconst hX dX7_copies_0 ci_0 1 rfl ?_
  refine jj_istore_n (lv2 := [(0, .ref (ad 0)), (1, .int x1), (2, .int x2), (3, .int (0 : Int32))]) hX dX7_copies_1 (Nat.le_of_ble_eq_true rfl) [1, 2, 3, 0] rfl 2 rfl ?_
  obtain ⟨n9, h⟩ := h
  exact tmw_copies_L2 hX hK hD n9 _ _ h
theorem hd_mw_copies : yX7_copies.cls = RX7 ∧ yX7_copies.cls ≠ "java/lang/invoke/MethodHandle" ∧ yX7_copies.cls ≠ "java/lang/invoke/VarHandle" ∧ (parseMethodDescriptor yX7_copies.desc).map (fun d => d.parameters.length) = some 2 := by decide +kernel
theorem kmw_copies {X : JC} {Q : State → Prop} {nL k n pc : Nat} {lv : List (Nat × Value)} {st : List Value} {own : String} {cc : ByteArray} {ret : Option FieldType} {F LL mc ms ix : Nat} {D : va_G} {dA ad : Nat → Nat} {x1 : Int32} {x2 : Int32} {u : MS} {Post : MS → Prop} (hX : JX X own cc nL ret F LL mc ms) (hK : KM D dA (jj_s X)) (hD : MD ad) (hlk : (Cond.methodLink own ix yX7_copies) ∈ lw_all) (hF : 0 + 1 ≤ F) (hL : 8 + (4 + 11) + 0 ≤ LL) (hk : k ≤ mc) (hk2 : n ≤ ms) (hw : (st.map fun v => v.category).sum ≤ 8) (d : decode cc pc = .ok (.invokevirtual ix, 3)) (q : Nat) (hq : pc + 3 = q) (h : mw_copies x1 x2 u Post) (kk : ∀ u2 : MS, Post u2 → JJ X (AM ad) Q nL (MW D dA ad u2) k n q lv st) : JJ X (AM ad) Q nL (MW D dA ad u) k n pc lv (.int x2 :: .int x1 :: .ref (ad 0) :: st) :=
  jm_callv (na := 2) (As := [.int x1, .int x2]) hX hK (mmw_copies (jj_l X) D dA ad hD x1 x2 u Post h) hlk q2191 qs118 q129 q2192 hd_mw_copies rfl rfl hw hF hL hk hk2 d q hq kk
/-- RaisedPressModel.mark()I -/
def mw_mark (u : MS) (Post : Int32 → MS → Prop) : Prop :=
  (¬ (jm_i u 0 45) = (3 : Int32) →
    ∀ u21 : MS, u21 = jm_s u 0 45 ((jm_i u 0 45) + (1 : Int32)) →
    mw_copies (0 : Int32) (jm_i u21 0 45) u21 (fun u30 =>
      mw_gives (jm_i u30 0 45) u30 (fun r38 u38 =>
        Post r38 u38))) ∧
  ((jm_i u 0 45) = (3 : Int32) →
    mw_refuse (4 : Int32) u (fun r10 u10 =>
      Post r10 u10))
set_option maxHeartbeats 4000000 in
set_option maxRecDepth 100000 in
theorem mmw_mark (l : Launch) (D : va_G) (dA ad : Nat → Nat) (hD : MD ad) (u : MS) (Post : Int32 → MS → Prop) (h : mw_mark  u Post) : Met l yX7_mark (ws_ yX7_mark cX7_mark 1 (Option.some Jvm.ClassFile.FieldType.int)) (jm_rm 1 23) (jm_Pc D dA ad u []) (va_Qi Post (jm_B D dA ad) (AM ad)) 0 0 (AM ad) := by
  refine jm_start [] [(0, .ref (ad 0))] (by decide) (Nat.le_of_ble_eq_true rfl) rfl (fun X hX hK => ?_)
  unfold mw_mark at h
  refine jt_45 hX hK dX7_mark_0 0 rfl dX7_mark_1 q1529 4 rfl rfl ?_
  refine jj_iconst hX dX7_mark_4 ci_3 5 rfl ?_
  refine jj_icmp_ne hX dX7_mark_5 14 8 (by decide) rfl (fun c5 => ?_) (fun c5 => ?_)
  · have h := h.1 c5
    refine jj_aload_n hX dX7_mark_14 0 rfl 15 rfl ?_
    refine jj_dup hX dX7_mark_15 rfl 16 rfl ?_
    refine jg_45 hX hK dX7_mark_16 q1529 19 rfl ?_
    refine jj_iconst hX dX7_mark_19 ci_1 20 rfl ?_
    refine jj_iadd hX dX7_mark_20 21 rfl ?_
    refine jp_45 hX hK hD dX7_mark_21 q1529 24 rfl (fun u21 e21 => ?_)
    have h := h u21 e21
    refine jj_aload_n hX dX7_mark_24 0 rfl 25 rfl ?_
    refine jj_iconst hX dX7_mark_25 ci_0 26 rfl ?_
    refine jt_45 hX hK dX7_mark_26 0 rfl dX7_mark_27 q1529 30 rfl rfl ?_
    refine kmw_copies hX hK hD q2189 (Nat.le_of_ble_eq_true rfl) (Nat.le_of_ble_eq_true rfl) (Nat.zero_le _) (Nat.zero_le _) (Nat.le_of_ble_eq_true rfl) dX7_mark_30 33 rfl h (fun u30 h => ?_)
    refine jj_aload_n hX dX7_mark_33 0 rfl 34 rfl ?_
    refine jt_45 hX hK dX7_mark_34 0 rfl dX7_mark_35 q1529 38 rfl rfl ?_
    refine kmw_gives hX hK hD q1752 (Nat.le_of_ble_eq_true rfl) (Nat.le_of_ble_eq_true rfl) (Nat.zero_le _) (Nat.zero_le _) (Nat.le_of_ble_eq_true rfl) dX7_mark_38 41 rfl h (fun r38 u38 h => ?_)
    exact jj_reti (post := Post) (u := u38) hX dX7_mark_41 (Nat.le_refl 0) (Nat.le_refl 0) jm_hB h
  · have h := h.2 c5
    refine jj_aload_n hX dX7_mark_8 0 rfl 9 rfl ?_
    refine jj_iconst hX dX7_mark_9 ci_4 10 rfl ?_
    refine kmw_refuse hX hK hD q1702 (Nat.le_of_ble_eq_true rfl) (Nat.le_of_ble_eq_true rfl) (Nat.zero_le _) (Nat.zero_le _) (Nat.le_of_ble_eq_true rfl) dX7_mark_10 13 rfl h (fun r10 u10 h => ?_)
    exact jj_reti (post := Post) (u := u10) hX dX7_mark_13 (Nat.le_refl 0) (Nat.le_refl 0) jm_hB h
theorem hd_mw_mark : yX7_mark.cls = RX7 ∧ yX7_mark.cls ≠ "java/lang/invoke/MethodHandle" ∧ yX7_mark.cls ≠ "java/lang/invoke/VarHandle" ∧ (parseMethodDescriptor yX7_mark.desc).map (fun d => d.parameters.length) = some 0 := by decide +kernel
theorem kmw_mark {X : JC} {Q : State → Prop} {nL k n pc : Nat} {lv : List (Nat × Value)} {st : List Value} {own : String} {cc : ByteArray} {ret : Option FieldType} {F LL mc ms ix : Nat} {D : va_G} {dA ad : Nat → Nat} {u : MS} {Post : Int32 → MS → Prop} (hX : JX X own cc nL ret F LL mc ms) (hK : KM D dA (jj_s X)) (hD : MD ad) (hlk : (Cond.methodLink own ix yX7_mark) ∈ lw_all) (hF : 1 + 1 ≤ F) (hL : 8 + (1 + 11) + 23 ≤ LL) (hk : k ≤ mc) (hk2 : n ≤ ms) (hw : (st.map fun v => v.category).sum ≤ 8) (d : decode cc pc = .ok (.invokevirtual ix, 3)) (q : Nat) (hq : pc + 3 = q) (h : mw_mark  u Post) (kk : ∀ (r : Int32) (u2 : MS), Post r u2 → JJ X (AM ad) Q nL (MW D dA ad u2) k n q lv (.int r :: st)) : JJ X (AM ad) Q nL (MW D dA ad u) k n pc lv (.ref (ad 0) :: st) :=
  jm_calli (na := 0) (As := []) hX hK (mmw_mark (jj_l X) D dA ad hD  u Post h) hlk q2186 q2187 q129 q2188 hd_mw_mark rfl rfl hw hF hL hk hk2 d q hq kk
/-- RaisedPressModel.back()I -/
def mw_back (u : MS) (Post : Int32 → MS → Prop) : Prop :=
  (¬ (jm_i u 0 45) = 0 →
    mw_copies (jm_i u 0 45) (0 : Int32) u (fun u20 =>
      ∀ u30 : MS, u30 = jm_s u20 0 45 ((jm_i u20 0 45) - (1 : Int32)) →
      mw_gives (jm_i u30 0 45) u30 (fun r38 u38 =>
        Post r38 u38))) ∧
  ((jm_i u 0 45) = 0 →
    mw_refuse (6 : Int32) u (fun r10 u10 =>
      Post r10 u10))
set_option maxHeartbeats 4000000 in
set_option maxRecDepth 100000 in
theorem mmw_back (l : Launch) (D : va_G) (dA ad : Nat → Nat) (hD : MD ad) (u : MS) (Post : Int32 → MS → Prop) (h : mw_back  u Post) : Met l yX7_back (ws_ yX7_back cX7_back 1 (Option.some Jvm.ClassFile.FieldType.int)) (jm_rm 1 23) (jm_Pc D dA ad u []) (va_Qi Post (jm_B D dA ad) (AM ad)) 0 0 (AM ad) := by
  refine jm_start [] [(0, .ref (ad 0))] (by decide) (Nat.le_of_ble_eq_true rfl) rfl (fun X hX hK => ?_)
  unfold mw_back at h
  refine jt_45 hX hK dX7_back_0 0 rfl dX7_back_1 q1529 4 rfl rfl ?_
  refine jj_if_ne hX dX7_back_4 14 7 (by decide) rfl (fun c4 => ?_) (fun c4 => ?_)
  · have h := h.1 c4
    refine jj_aload_n hX dX7_back_14 0 rfl 15 rfl ?_
    refine jt_45 hX hK dX7_back_15 0 rfl dX7_back_16 q1529 19 rfl rfl ?_
    refine jj_iconst hX dX7_back_19 ci_0 20 rfl ?_
    refine kmw_copies hX hK hD q2189 (Nat.le_of_ble_eq_true rfl) (Nat.le_of_ble_eq_true rfl) (Nat.zero_le _) (Nat.zero_le _) (Nat.le_of_ble_eq_true rfl) dX7_back_20 23 rfl h (fun u20 h => ?_)
    refine jj_aload_n hX dX7_back_23 0 rfl 24 rfl ?_
    refine jj_dup hX dX7_back_24 rfl 25 rfl ?_
    refine jg_45 hX hK dX7_back_25 q1529 28 rfl ?_
    refine jj_iconst hX dX7_back_28 ci_1 29 rfl ?_
    refine jj_isub hX dX7_back_29 30 rfl ?_
    refine jp_45 hX hK hD dX7_back_30 q1529 33 rfl (fun u30 e30 => ?_)
    have h := h u30 e30
    refine jj_aload_n hX dX7_back_33 0 rfl 34 rfl ?_
    refine jt_45 hX hK dX7_back_34 0 rfl dX7_back_35 q1529 38 rfl rfl ?_
    refine kmw_gives hX hK hD q1752 (Nat.le_of_ble_eq_true rfl) (Nat.le_of_ble_eq_true rfl) (Nat.zero_le _) (Nat.zero_le _) (Nat.le_of_ble_eq_true rfl) dX7_back_38 41 rfl h (fun r38 u38 h => ?_)
    exact jj_reti (post := Post) (u := u38) hX dX7_back_41 (Nat.le_refl 0) (Nat.le_refl 0) jm_hB h
  · have h := h.2 c4
    refine jj_aload_n hX dX7_back_7 0 rfl 8 rfl ?_
    refine jj_bipush hX dX7_back_8 cb_6 10 rfl ?_
    refine kmw_refuse hX hK hD q1702 (Nat.le_of_ble_eq_true rfl) (Nat.le_of_ble_eq_true rfl) (Nat.zero_le _) (Nat.zero_le _) (Nat.le_of_ble_eq_true rfl) dX7_back_10 13 rfl h (fun r10 u10 h => ?_)
    exact jj_reti (post := Post) (u := u10) hX dX7_back_13 (Nat.le_refl 0) (Nat.le_refl 0) jm_hB h
theorem hd_mw_back : yX7_back.cls = RX7 ∧ yX7_back.cls ≠ "java/lang/invoke/MethodHandle" ∧ yX7_back.cls ≠ "java/lang/invoke/VarHandle" ∧ (parseMethodDescriptor yX7_back.desc).map (fun d => d.parameters.length) = some 0 := by decide +kernel
theorem kmw_back {X : JC} {Q : State → Prop} {nL k n pc : Nat} {lv : List (Nat × Value)} {st : List Value} {own : String} {cc : ByteArray} {ret : Option FieldType} {F LL mc ms ix : Nat} {D : va_G} {dA ad : Nat → Nat} {u : MS} {Post : Int32 → MS → Prop} (hX : JX X own cc nL ret F LL mc ms) (hK : KM D dA (jj_s X)) (hD : MD ad) (hlk : (Cond.methodLink own ix yX7_back) ∈ lw_all) (hF : 1 + 1 ≤ F) (hL : 8 + (1 + 11) + 23 ≤ LL) (hk : k ≤ mc) (hk2 : n ≤ ms) (hw : (st.map fun v => v.category).sum ≤ 8) (d : decode cc pc = .ok (.invokevirtual ix, 3)) (q : Nat) (hq : pc + 3 = q) (h : mw_back  u Post) (kk : ∀ (r : Int32) (u2 : MS), Post r u2 → JJ X (AM ad) Q nL (MW D dA ad u2) k n q lv (.int r :: st)) : JJ X (AM ad) Q nL (MW D dA ad u) k n pc lv (.ref (ad 0) :: st) :=
  jm_calli (na := 0) (As := []) hX hK (mmw_back (jj_l X) D dA ad hD  u Post h) hlk q2194 q2195 q129 q2196 hd_mw_back rfl rfl hw hF hL hk hk2 d q hq kk
