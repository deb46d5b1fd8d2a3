set_option linter.unusedVariables false
def xw8_next_L131_S (Post : XS → Prop) (K : XK) (x0 : Nat) (R : XS → Prop) (u : XS) : Prop :=
  K x0 = (1, 8) ∧
  xw8_isDigit x0 (xi u x0 2) K u (fun r136 u136 =>
    (r136 = 0 →
      (((xi u136 x0 2) - (xi u136 x0 1)) ≤ (4 : Int32) →
        ∀ u214 : XS, u214 = xsi u136 x0 3 (2 : Int32) →
        Post u214) ∧
      (¬ ((xi u136 x0 2) - (xi u136 x0 1)) ≤ (4 : Int32) →
        ∀ u214 : XS, u214 = xsi u136 x0 3 (4 : Int32) →
        Post u214)) ∧
    (¬ r136 = 0 →
      ((4 : Int32) ≤ ((xi u136 x0 2) - (xi u136 x0 1)) →
        ∀ u189 : XS, u189 = xsi u136 x0 2 ((xi u136 x0 2) + (1 : Int32)) →
        R u189) ∧
      (¬ (4 : Int32) ≤ ((xi u136 x0 2) - (xi u136 x0 1)) →
        ∃ b167, (xr u136 x0 7) = some b167 ∧
        K b167 = (1, 0) ∧
        ∃ b174, (xr u136 b167 2) = some b174 ∧
        ∃ n174, K b174 = (3, n174) ∧
        vp_in (xi u136 x0 2) n174 ∧
        ∀ u179 : XS, u179 = xsi u136 x0 4 ((((10 : Int32) * (xi u136 x0 4)) + (xi u136 b174 (xi u136 x0 2).toNatClampNeg)) - (48 : Int32)) →
        ∀ u189 : XS, u189 = xsi u179 x0 2 ((xi u179 x0 2) + (1 : Int32)) →
        R u189)))
def xw8_next_L131 (Post : XS → Prop) (K : XK) (x0 : Nat) : Nat → XS → Prop
  | 0 => fun _ => False
  | n + 1 => fun u => xw8_next_L131_S Post K x0 (xw8_next_L131 Post K x0 n) u
def xw8_next_L91_S (Post : XS → Prop) (K : XK) (x0 : Nat) (R : XS → Prop) (u : XS) : Prop :=
  K x0 = (1, 8) ∧
  xw8_isWordByte x0 (xi u x0 2) K u (fun r96 u96 =>
    (r96 = 0 →
      Post u96) ∧
    (¬ r96 = 0 →
      ∀ u109 : XS, u109 = xsi u96 x0 2 ((xi u96 x0 2) + (1 : Int32)) →
      R u109))
def xw8_next_L91 (Post : XS → Prop) (K : XK) (x0 : Nat) : Nat → XS → Prop
  | 0 => fun _ => False
  | n + 1 => fun u => xw8_next_L91_S Post K x0 (xw8_next_L91 Post K x0 n) u
def xw8_next_B50 (Post : XS → Prop) (K : XK) (x0 : Nat) (u : XS) : Prop :=
  K x0 = (1, 8) ∧
  ∀ u55 : XS, u55 = xsi u x0 2 (xi u x0 1) →
  ∀ u60 : XS, u60 = xsi u55 x0 3 (0 : Int32) →
  ((xi u60 x0 1) < (xi u60 x0 0) →
    xw8_isWordByte x0 (xi u60 x0 1) K u60 (fun r80 u80 =>
      (r80 = 0 →
        xw8_isDigit x0 (xi u80 x0 1) K u80 (fun r120 u120 =>
          (r120 = 0 →
            ∀ u227 : XS, u227 = xsi u120 x0 2 ((xi u120 x0 1) + (1 : Int32)) →
            ∃ b235, (xr u227 x0 7) = some b235 ∧
            K b235 = (1, 0) ∧
            ∃ b242, (xr u227 b235 2) = some b242 ∧
            ∃ n242, K b242 = (3, n242) ∧
            vp_in (xi u227 x0 1) n242 ∧
            (¬ (xi u227 b242 (xi u227 x0 1).toNatClampNeg) = (59 : Int32) →
              ∀ u253 : XS, u253 = xsi u227 x0 3 (4 : Int32) →
              Post u253) ∧
            ((xi u227 b242 (xi u227 x0 1).toNatClampNeg) = (59 : Int32) →
              ∀ u253 : XS, u253 = xsi u227 x0 3 (3 : Int32) →
              Post u253)) ∧
          (¬ r120 = 0 →
            ∀ u128 : XS, u128 = xsi u120 x0 4 (0 : Int32) →
            ∃ n, xw8_next_L131 Post K x0 n u128))) ∧
      (¬ r80 = 0 →
        ∀ u88 : XS, u88 = xsi u80 x0 3 (1 : Int32) →
        ∃ n, xw8_next_L91 Post K x0 n u88))) ∧
  (¬ (xi u60 x0 1) < (xi u60 x0 0) →
    Post u60)
def xw8_next_L8_S (Post : XS → Prop) (K : XK) (x0 : Nat) (R : XS → Prop) (u : XS) : Prop :=
  K x0 = (1, 8) ∧
  ((xi u x0 0) ≤ (xi u x0 1) →
    xw8_next_B50 Post K x0 u) ∧
  (¬ (xi u x0 0) ≤ (xi u x0 1) →
    ∃ b23, (xr u x0 7) = some b23 ∧
    K b23 = (1, 0) ∧
    ∃ b30, (xr u b23 2) = some b30 ∧
    ∃ n30, K b30 = (3, n30) ∧
    vp_in (xi u x0 1) n30 ∧
    xs_isBlank (xi u b30 (xi u x0 1).toNatClampNeg) (fun r31 =>
      (r31 = 0 →
        xw8_next_B50 Post K x0 u) ∧
      (¬ r31 = 0 →
        ∀ u44 : XS, u44 = xsi u x0 1 ((xi u x0 1) + (1 : Int32)) →
        R u44)))
def xw8_next_L8 (Post : XS → Prop) (K : XK) (x0 : Nat) : Nat → XS → Prop
  | 0 => fun _ => False
  | n + 1 => fun u => xw8_next_L8_S Post K x0 (xw8_next_L8 Post K x0 n) u
/-- RaisedPress$Reader.next()V -/
def xw8_next (x0 : Nat) (K : XK) (u : XS) (Post : XS → Prop) : Prop :=
  K x0 = (1, 8) ∧
  ∀ u5 : XS, u5 = xsi u x0 1 (xi u x0 2) →
  ∃ n, xw8_next_L8 Post K x0 n u5
set_option maxHeartbeats 4000000 in
set_option maxRecDepth 100000 in
theorem txw8_next_L131 {X : JC} {D : va_G} {dA aK aV : Nat → Nat} {sz : Nat} {K : XK} {Post : XS → Prop} {x0 : Nat} (hX : JX X yX8_next.cls cX8_next 1 (Option.none : Option Jvm.ClassFile.FieldType) 2 41 0 0) (hY : JY X D dA aK aV (AX K sz)) : ∀ (n : Nat) (u : XS), xw8_next_L131 Post K x0 n u → JJ X (AX K sz) (jj_Q X (va_Qv (fun w : XS => Post w) (jx_B D dA K) (AX K sz)) 0 0 (AX K sz)) 1 (XP D dA (AX K sz) K u) 0 0 131 [(0, .ref x0)] [] := by
  intro n
  induction n with
  | zero =>
    intro u h
    exact h.elim
  | succ n ih =>
    intro u h
    have h : xw8_next_L131_S Post K x0 (xw8_next_L131 Post K x0 n) u := h
    unfold xw8_next_L131_S at h
    refine jj_aload_n hX dX8_next_131 0 rfl 132 rfl ?_
    refine jj_aload_n hX dX8_next_132 0 rfl 133 rfl ?_
    obtain ⟨k133, h⟩ := h
    refine xg8_2 hX hY k133 dX8_next_133 q660 136 rfl ?_
    refine kxw8_isDigit hX hY k133 q651 (Nat.le_of_ble_eq_true rfl) (Nat.le_of_ble_eq_true rfl) (Nat.zero_le _) (Nat.zero_le _) (Nat.le_of_ble_eq_true rfl) dX8_next_136 139 rfl h (fun r136 u136 hb136 h => ?_)
    refine jj_if_eq hX dX8_next_139 195 142 (by decide) rfl (fun c139 => ?_) (fun c139 => ?_)
    · have h := h.1 c139
      refine jj_aload_n hX dX8_next_195 0 rfl 196 rfl ?_
      refine jj_aload_n hX dX8_next_196 0 rfl 197 rfl ?_
      refine xg8_2 hX hY k133 dX8_next_197 q660 200 rfl ?_
      refine jj_aload_n hX dX8_next_200 0 rfl 201 rfl ?_
      refine xg8_1 hX hY k133 dX8_next_201 q659 204 rfl ?_
      refine jj_isub hX dX8_next_204 205 rfl ?_
      refine jj_iconst hX dX8_next_205 ci_4 206 rfl ?_
      refine jj_icmp_le hX dX8_next_206 213 209 (by decide) rfl (fun c206 => ?_) (fun c206 => ?_)
      · have h := h.1 c206
        refine jj_iconst hX dX8_next_213 ci_2 214 rfl ?_
        refine xp8_3 hX hY k133 dX8_next_214 q661 217 rfl (fun u214 e214 => ?_)
        have h := h u214 e214
        refine jj_goto hX dX8_next_217 256 (by decide) ?_
        exact jj_retv (post := (fun w : XS => Post w)) (u := u214) hX dX8_next_256 (Nat.le_refl 0) (Nat.le_refl 0) jx_hB h
      · have h := h.2 c206
        refine jj_iconst hX dX8_next_209 ci_4 210 rfl ?_
        refine jj_goto hX dX8_next_210 214 (by decide) ?_
        refine xp8_3 hX hY k133 dX8_next_214 q661 217 rfl (fun u214 e214 => ?_)
        have h := h u214 e214
        refine jj_goto hX dX8_next_217 256 (by decide) ?_
        exact jj_retv (post := (fun w : XS => Post w)) (u := u214) hX dX8_next_256 (Nat.le_refl 0) (Nat.le_refl 0) jx_hB h
    · have h := h.2 c139
      refine jj_aload_n hX dX8_next_142 0 rfl 143 rfl ?_
      refine xg8_2 hX hY k133 dX8_next_143 q660 146 rfl ?_
      refine jj_aload_n hX dX8_next_146 0 rfl 147 rfl ?_
      refine xg8_1 hX hY k133 dX8_next_147 q659 150 rfl ?_
      refine jj_isub hX dX8_next_150 151 rfl ?_
      refine jj_iconst hX dX8_next_151 ci_4 152 rfl ?_
      refine jj_icmp_ge hX dX8_next_152 182 155 (by decide) rfl (fun c152 => ?_) (fun c152 => ?_)
      · have h := h.1 c152
        refine jj_aload_n hX dX8_next_182 0 rfl 183 rfl ?_
        refine jj_dup hX dX8_next_183 rfl 184 rfl ?_
        refine xg8_2 hX hY k133 dX8_next_184 q660 187 rfl ?_
        refine jj_iconst hX dX8_next_187 ci_1 188 rfl ?_
        refine jj_iadd hX dX8_next_188 189 rfl ?_
        refine xp8_2 hX hY k133 dX8_next_189 q660 192 rfl (fun u189 e189 => ?_)
        have h := h u189 e189
        refine jj_goto hX dX8_next_192 131 (by decide) ?_
        exact ih _ h
      · have h := h.2 c152
        refine jj_aload_n hX dX8_next_155 0 rfl 156 rfl ?_
        refine jj_bipush hX dX8_next_156 cb_10 158 rfl ?_
        refine jj_aload_n hX dX8_next_158 0 rfl 159 rfl ?_
        refine xg8_4 hX hY k133 dX8_next_159 q662 162 rfl ?_
        refine jj_imul hX dX8_next_162 163 rfl ?_
        refine jj_aload_n hX dX8_next_163 0 rfl 164 rfl ?_
        refine xg8_7 hX hY k133 dX8_next_164 q665 167 rfl ?_
        obtain ⟨b167, g167, h⟩ := h
        refine jj_st (st2 := [.ref b167, .int ((10 : Int32) * (xi u136 x0 4)), .ref x0]) (by rw [va_rf_some g167]) ?_
        obtain ⟨k167, h⟩ := h
        refine xgn0_2 hX hY k167 dX8_next_167 nq412 170 rfl ?_
        refine jj_aload_n hX dX8_next_170 0 rfl 171 rfl ?_
        refine xg8_2 hX hY k133 dX8_next_171 q660 174 rfl ?_
        obtain ⟨b174, g174, h⟩ := h
        refine jj_st (st2 := [.int (xi u136 x0 2), .ref b174, .int ((10 : Int32) * (xi u136 x0 4)), .ref x0]) (by rw [va_rf_some g174]) ?_
        obtain ⟨n174, k174, h⟩ := h
        obtain ⟨hi174, h⟩ := h
        refine jx_bald hX hY.1 k174 _ rfl hi174 dX8_next_174 175 rfl ?_
        refine jj_iadd hX dX8_next_175 176 rfl ?_
        refine jj_bipush hX dX8_next_176 cb_48 178 rfl ?_
        refine jj_isub hX dX8_next_178 179 rfl ?_
        refine xp8_4 hX hY k133 dX8_next_179 q662 182 rfl (fun u179 e179 => ?_)
        have h := h u179 e179
        refine jj_aload_n hX dX8_next_182 0 rfl 183 rfl ?_
        refine jj_dup hX dX8_next_183 rfl 184 rfl ?_
        refine xg8_2 hX hY k133 dX8_next_184 q660 187 rfl ?_
        refine jj_iconst hX dX8_next_187 ci_1 188 rfl ?_
        refine jj_iadd hX dX8_next_188 189 rfl ?_
        refine xp8_2 hX hY k133 dX8_next_189 q660 192 rfl (fun u189 e189 => ?_)
        have h := h u189 e189
        refine jj_goto hX dX8_next_192 131 (by decide) ?_
        exact ih _ h
set_option maxHeartbeats 4000000 in
set_option maxRecDepth 100000 in
theorem txw8_next_L91 {X : JC} {D : va_G} {dA aK aV : Nat → Nat} {sz : Nat} {K : XK} {Post : XS → Prop} {x0 : Nat} (hX : JX X yX8_next.cls cX8_next 1 (Option.none : Option Jvm.ClassFile.FieldType) 2 41 0 0) (hY : JY X D dA aK aV (AX K sz)) : ∀ (n : Nat) (u : XS), xw8_next_L91 Post K x0 n u → JJ X (AX K sz) (jj_Q X (va_Qv (fun w : XS => Post w) (jx_B D dA K) (AX K sz)) 0 0 (AX K sz)) 1 (XP D dA (AX K sz) K u) 0 0 91 [(0, .ref x0)] [] := by
  intro n
  induction n with
  | zero =>
    intro u h
    exact h.elim
  | succ n ih =>
    intro u h
    have h : xw8_next_L91_S Post K x0 (xw8_next_L91 Post K x0 n) u := h
    unfold xw8_next_L91_S at h
    refine jj_aload_n hX dX8_next_91 0 rfl 92 rfl ?_
    refine jj_aload_n hX dX8_next_92 0 rfl 93 rfl ?_
    obtain ⟨k93, h⟩ := h
    refine xg8_2 hX hY k93 dX8_next_93 q660 96 rfl ?_
    refine kxw8_isWordByte hX hY k93 q644 (Nat.le_of_ble_eq_true rfl) (Nat.le_of_ble_eq_true rfl) (Nat.zero_le _) (Nat.zero_le _) (Nat.le_of_ble_eq_true rfl) dX8_next_96 99 rfl h (fun r96 u96 hb96 h => ?_)
    refine jj_if_eq hX dX8_next_99 256 102 (by decide) rfl (fun c99 => ?_) (fun c99 => ?_)
    · have h := h.1 c99
      exact jj_retv (post := (fun w : XS => Post w)) (u := u96) hX dX8_next_256 (Nat.le_refl 0) (Nat.le_refl 0) jx_hB h
    · have h := h.2 c99
      refine jj_aload_n hX dX8_next_102 0 rfl 103 rfl ?_
      refine jj_dup hX dX8_next_103 rfl 104 rfl ?_
      refine xg8_2 hX hY k93 dX8_next_104 q660 107 rfl ?_
      refine jj_iconst hX dX8_next_107 ci_1 108 rfl ?_
      refine jj_iadd hX dX8_next_108 109 rfl ?_
      refine xp8_2 hX hY k93 dX8_next_109 q660 112 rfl (fun u109 e109 => ?_)
      have h := h u109 e109
      refine jj_goto hX dX8_next_112 91 (by decide) ?_
      exact ih _ h
set_option maxHeartbeats 4000000 in
set_option maxRecDepth 100000 in
theorem txw8_next_B50 {X : JC} {D : va_G} {dA aK aV : Nat → Nat} {sz : Nat} {K : XK} {Post : XS → Prop} {x0 : Nat} {u : XS} (hX : JX X yX8_next.cls cX8_next 1 (Option.none : Option Jvm.ClassFile.FieldType) 2 41 0 0) (hY : JY X D dA aK aV (AX K sz)) (h : xw8_next_B50 Post K x0  u) : JJ X (AX K sz) (jj_Q X (va_Qv (fun w : XS => Post w) (jx_B D dA K) (AX K sz)) 0 0 (AX K sz)) 1 (XP D dA (AX K sz) K u) 0 0 50 [(0, .ref x0)] [] := by
  unfold xw8_next_B50 at h
  refine jj_aload_n hX dX8_next_50 0 rfl 51 rfl ?_
  refine jj_aload_n hX dX8_next_51 0 rfl 52 rfl ?_
  obtain ⟨k52, h⟩ := h
  refine xg8_1 hX hY k52 dX8_next_52 q659 55 rfl ?_
  refine xp8_2 hX hY k52 dX8_next_55 q660 58 rfl (fun u55 e55 => ?_)
  have h := h u55 e55
  refine jj_aload_n hX dX8_next_58 0 rfl 59 rfl ?_
  refine jj_iconst hX dX8_next_59 ci_0 60 rfl ?_
  refine xp8_3 hX hY k52 dX8_next_60 q661 63 rfl (fun u60 e60 => ?_)
  have h := h u60 e60
  refine jj_aload_n hX dX8_next_63 0 rfl 64 rfl ?_
  refine xg8_1 hX hY k52 dX8_next_64 q659 67 rfl ?_
  refine jj_aload_n hX dX8_next_67 0 rfl 68 rfl ?_
  refine xg8_0 hX hY k52 dX8_next_68 q658 71 rfl ?_
  refine jj_icmp_lt hX dX8_next_71 75 74 (by decide) rfl (fun c71 => ?_) (fun c71 => ?_)
  · have h := h.1 c71
    refine jj_aload_n hX dX8_next_75 0 rfl 76 rfl ?_
    refine jj_aload_n hX dX8_next_76 0 rfl 77 rfl ?_
    refine xg8_1 hX hY k52 dX8_next_77 q659 80 rfl ?_
    refine kxw8_isWordByte hX hY k52 q644 (Nat.le_of_ble_eq_true rfl) (Nat.le_of_ble_eq_true rfl) (Nat.zero_le _) (Nat.zero_le _) (Nat.le_of_ble_eq_true rfl) dX8_next_80 83 rfl h (fun r80 u80 hb80 h => ?_)
    refine jj_if_eq hX dX8_next_83 115 86 (by decide) rfl (fun c83 => ?_) (fun c83 => ?_)
    · have h := h.1 c83
      refine jj_aload_n hX dX8_next_115 0 rfl 116 rfl ?_
      refine jj_aload_n hX dX8_next_116 0 rfl 117 rfl ?_
      refine xg8_1 hX hY k52 dX8_next_117 q659 120 rfl ?_
      refine kxw8_isDigit hX hY k52 q651 (Nat.le_of_ble_eq_true rfl) (Nat.le_of_ble_eq_true rfl) (Nat.zero_le _) (Nat.zero_le _) (Nat.le_of_ble_eq_true rfl) dX8_next_120 123 rfl h (fun r120 u120 hb120 h => ?_)
      refine jj_if_eq hX dX8_next_123 220 126 (by decide) rfl (fun c123 => ?_) (fun c123 => ?_)
      · have h := h.1 c123
        refine jj_aload_n hX dX8_next_220 0 rfl 221 rfl ?_
        refine jj_aload_n hX dX8_next_221 0 rfl 222 rfl ?_
        refine xg8_1 hX hY k52 dX8_next_222 q659 225 rfl ?_
        refine jj_iconst hX dX8_next_225 ci_1 226 rfl ?_
        refine jj_iadd hX dX8_next_226 227 rfl ?_
        refine xp8_2 hX hY k52 dX8_next_227 q660 230 rfl (fun u227 e227 => ?_)
        have h := h u227 e227
        refine jj_aload_n hX dX8_next_230 0 rfl 231 rfl ?_
        refine jj_aload_n hX dX8_next_231 0 rfl 232 rfl ?_
        refine xg8_7 hX hY k52 dX8_next_232 q665 235 rfl ?_
        obtain ⟨b235, g235, h⟩ := h
        refine jj_st (st2 := [.ref b235, .ref x0]) (by rw [va_rf_some g235]) ?_
        obtain ⟨k235, h⟩ := h
        refine xgn0_2 hX hY k235 dX8_next_235 nq412 238 rfl ?_
        refine jj_aload_n hX dX8_next_238 0 rfl 239 rfl ?_
        refine xg8_1 hX hY k52 dX8_next_239 q659 242 rfl ?_
        obtain ⟨b242, g242, h⟩ := h
        refine jj_st (st2 := [.int (xi u227 x0 1), .ref b242, .ref x0]) (by rw [va_rf_some g242]) ?_
        obtain ⟨n242, k242, h⟩ := h
        obtain ⟨hi242, h⟩ := h
        refine jx_bald hX hY.1 k242 _ rfl hi242 dX8_next_242 243 rfl ?_
        refine jj_bipush hX dX8_next_243 cb_59 245 rfl ?_
        refine jj_icmp_ne hX dX8_next_245 252 248 (by decide) rfl (fun c245 => ?_) (fun c245 => ?_)
        · have h := h.1 c245
          refine jj_iconst hX dX8_next_252 ci_4 253 rfl ?_
          refine xp8_3 hX hY k52 dX8_next_253 q661 256 rfl (fun u253 e253 => ?_)
          have h := h u253 e253
          exact jj_retv (post := (fun w : XS => Post w)) (u := u253) hX dX8_next_256 (Nat.le_refl 0) (Nat.le_refl 0) jx_hB h
        · have h := h.2 c245
          refine jj_iconst hX dX8_next_248 ci_3 249 rfl ?_
          refine jj_goto hX dX8_next_249 253 (by decide) ?_
          refine xp8_3 hX hY k52 dX8_next_253 q661 256 rfl (fun u253 e253 => ?_)
          have h := h u253 e253
          exact jj_retv (post := (fun w : XS => Post w)) (u := u253) hX dX8_next_256 (Nat.le_refl 0) (Nat.le_refl 0) jx_hB h
      · have h := h.2 c123
        refine jj_aload_n hX dX8_next_126 0 rfl 127 rfl ?_
        refine jj_iconst hX dX8_next_127 ci_0 128 rfl ?_
        refine xp8_4 hX hY k52 dX8_next_128 q662 131 rfl (fun u128 e128 => ?_)
        have h := h u128 e128
        obtain ⟨n9, h⟩ := h
        exact txw8_next_L131 hX hY n9 _ h
    · have h := h.2 c83
      refine jj_aload_n hX dX8_next_86 0 rfl 87 rfl ?_
      refine jj_iconst hX dX8_next_87 ci_1 88 rfl ?_
      refine xp8_3 hX hY k52 dX8_next_88 q661 91 rfl (fun u88 e88 => ?_)
      have h := h u88 e88
      obtain ⟨n9, h⟩ := h
      exact txw8_next_L91 hX hY n9 _ h
  · have h := h.2 c71
    exact jj_retv (post := (fun w : XS => Post w)) (u := u60) hX dX8_next_74 (Nat.le_refl 0) (Nat.le_refl 0) jx_hB h
set_option maxHeartbeats 4000000 in
set_option maxRecDepth 100000 in
theorem txw8_next_L8 {X : JC} {D : va_G} {dA aK aV : Nat → Nat} {sz : Nat} {K : XK} {Post : XS → Prop} {x0 : Nat} (hX : JX X yX8_next.cls cX8_next 1 (Option.none : Option Jvm.ClassFile.FieldType) 2 41 0 0) (hY : JY X D dA aK aV (AX K sz)) : ∀ (n : Nat) (u : XS), xw8_next_L8 Post K x0 n u → JJ X (AX K sz) (jj_Q X (va_Qv (fun w : XS => Post w) (jx_B D dA K) (AX K sz)) 0 0 (AX K sz)) 1 (XP D dA (AX K sz) K u) 0 0 8 [(0, .ref x0)] [] := by
  intro n
  induction n with
  | zero =>
    intro u h
    exact h.elim
  | succ n ih =>
    intro u h
    have h : xw8_next_L8_S Post K x0 (xw8_next_L8 Post K x0 n) u := h
    unfold xw8_next_L8_S at h
    refine jj_aload_n hX dX8_next_8 0 rfl 9 rfl ?_
    obtain ⟨k9, h⟩ := h
    refine xg8_1 hX hY k9 dX8_next_9 q659 12 rfl ?_
    refine jj_aload_n hX dX8_next_12 0 rfl 13 rfl ?_
    refine xg8_0 hX hY k9 dX8_next_13 q658 16 rfl ?_
    refine jj_icmp_ge hX dX8_next_16 50 19 (by decide) rfl (fun c16 => ?_) (fun c16 => ?_)
    · have h := h.1 c16
      exact txw8_next_B50 hX hY h
    · have h := h.2 c16
      refine jj_aload_n hX dX8_next_19 0 rfl 20 rfl ?_
      refine xg8_7 hX hY k9 dX8_next_20 q665 23 rfl ?_
      obtain ⟨b23, g23, h⟩ := h
      refine jj_st (st2 := [.ref b23]) (by rw [va_rf_some g23]) ?_
      obtain ⟨k23, h⟩ := h
      refine xgn0_2 hX hY k23 dX8_next_23 nq412 26 rfl ?_
      refine jj_aload_n hX dX8_next_26 0 rfl 27 rfl ?_
      refine xg8_1 hX hY k9 dX8_next_27 q659 30 rfl ?_
      obtain ⟨b30, g30, h⟩ := h
      refine jj_st (st2 := [.int (xi u x0 1), .ref b30]) (by rw [va_rf_some g30]) ?_
      obtain ⟨n30, k30, h⟩ := h
      obtain ⟨hi30, h⟩ := h
      refine jx_bald hX hY.1 k30 _ rfl hi30 dX8_next_30 31 rfl ?_
      refine knxs_isBlank hX XP.keeps hY.2.1 nq641 (Nat.le_of_ble_eq_true rfl) (Nat.le_of_ble_eq_true rfl) (Nat.zero_le _) (Nat.zero_le _) (Nat.le_of_ble_eq_true rfl) dX8_next_31 34 rfl h (fun r31 hb31 h => ?_)
      refine jj_if_eq hX dX8_next_34 50 37 (by decide) rfl (fun c34 => ?_) (fun c34 => ?_)
      · have h := h.1 c34
        exact txw8_next_B50 hX hY h
      · have h := h.2 c34
        refine jj_aload_n hX dX8_next_37 0 rfl 38 rfl ?_
        refine jj_dup hX dX8_next_38 rfl 39 rfl ?_
        refine xg8_1 hX hY k9 dX8_next_39 q659 42 rfl ?_
        refine jj_iconst hX dX8_next_42 ci_1 43 rfl ?_
        refine jj_iadd hX dX8_next_43 44 rfl ?_
        refine xp8_1 hX hY k9 dX8_next_44 q659 47 rfl (fun u44 e44 => ?_)
        have h := h u44 e44
        refine jj_goto hX dX8_next_47 8 (by decide) ?_
        exact ih _ h
set_option maxHeartbeats 4000000 in
set_option maxRecDepth 100000 in
theorem mxw8_next (l : Launch) (hfl : l.stackTraces = false) (D : va_G) (dA aK aV : Nat → Nat) (x0 : Nat) (K : XK) (u : XS) (Post : XS → Prop) (h : xw8_next x0 K u Post) (sz : Nat) : Met l yX8_next (ws_ yX8_next cX8_next 1 (Option.none : Option Jvm.ClassFile.FieldType)) (jx_rm 2 41 0 0) (jx_Pc D dA aK aV K u sz [.ref x0]) (va_Qv (fun w : XS => Post w) (jx_B D dA K) (AX K sz)) 0 0 (AX K sz) := by
  refine jx_start hfl [.ref x0] [(0, .ref x0)] (by decide) (Nat.le_of_ble_eq_true rfl) rfl (fun X hX hY hin => ?_)
  unfold xw8_next at h
  refine jj_aload_n hX dX8_next_0 0 rfl 1 rfl ?_
  refine jj_aload_n hX dX8_next_1 0 rfl 2 rfl ?_
  obtain ⟨k2, h⟩ := h
  refine xg8_2 hX hY k2 dX8_next_2 q660 5 rfl ?_
  refine xp8_1 hX hY k2 dX8_next_5 q659 8 rfl (fun u5 e5 => ?_)
  have h := h u5 e5
  obtain ⟨n9, h⟩ := h
  exact txw8_next_L8 hX hY n9 _ h
theorem hd_xw8_next : yX8_next.cls ≠ "java/lang/invoke/MethodHandle" ∧ yX8_next.cls ≠ "java/lang/invoke/VarHandle" ∧ (parseMethodDescriptor yX8_next.desc).map (fun d => d.parameters.length) = some 0 := by decide +kernel
theorem kxw8_next {X : JC} {A : Nat → Prop} {Q : State → Prop} {nL k n pc : Nat} {lv : List (Nat × Value)} {st : List Value} {own : String} {cc : ByteArray} {ret : Option FieldType} {F LL mc ms ix : Nat} {D : va_G} {dA aK aV : Nat → Nat} {K : XK} {u : XS} {x0 : Nat} {Post : XS → Prop} (hX : JX X own cc nL ret F LL mc ms) (hY : JY X D dA aK aV A) (h1a : K x0 = (1, 8)) (hlk : (Cond.methodLink own ix yX8_next) ∈ lw_all) (hF : 2 + 1 ≤ F) (hL : 8 + (1 + 11) + 41 ≤ LL) (hk : k ≤ mc) (hk2 : n ≤ ms) (hw : (st.map fun v => v.category).sum ≤ 8) (d : decode cc pc = .ok (.invokevirtual ix, 3)) (q : Nat) (hq : pc + 3 = q) (h : xw8_next x0 K u  Post) (kk : ∀ (u2 : XS), Post u2 → JJ X A Q nL (XP D dA A K u2) k n q lv (st)) : JJ X A Q nL (XP D dA A K u) k n pc lv (.ref x0 :: st) :=
  jx_callVv (na := 0) (As := []) hX hY jf8 h1a (fun sz => mxw8_next (jj_l X) hY.2.2.2.2 D dA aK aV x0 K u  Post h sz) hlk q639 qs7 q136 q640 ⟨rfl, hd_xw8_next⟩ rfl rfl hw hF hL hk hk2 d q hq kk
theorem knxw8_next {X : JC} {A : Nat → Prop} {Q : State → Prop} {nL k n pc : Nat} {lv : List (Nat × Value)} {st : List Value} {own : String} {cc : ByteArray} {ret : Option FieldType} {F LL mc ms ix : Nat} {D : va_G} {dA aK aV : Nat → Nat} {K : XK} {u : XS} {x0 : Nat} {host : String} {Post : XS → Prop} (hX : JX X own cc nL ret F LL mc ms) (hY : JY X D dA aK aV A) (h1a : K x0 = (1, 8)) (hlk : (Cond.methodLinkNest own ix yX8_next host) ∈ jx_nest) (hF : 2 + 1 ≤ F) (hL : 8 + (1 + 11) + 41 ≤ LL) (hk : k ≤ mc) (hk2 : n ≤ ms) (hw : (st.map fun v => v.category).sum ≤ 8) (d : decode cc pc = .ok (.invokevirtual ix, 3)) (q : Nat) (hq : pc + 3 = q) (h : xw8_next x0 K u  Post) (kk : ∀ (u2 : XS), Post u2 → JJ X A Q nL (XP D dA A K u2) k n q lv (st)) : JJ X A Q nL (XP D dA A K u) k n pc lv (.ref x0 :: st) :=
  jx_callNv (na := 0) (As := []) hX hY jf8 h1a (fun sz => mxw8_next (jj_l X) hY.2.2.2.2 D dA aK aV x0 K u  Post h sz) hlk q639 qs7 q136 q640 hd_xw8_next rfl rfl hw hF hL hk hk2 d q hq kk
/-- RaisedPress$Reader.<init>(LRaisedPress;I)V -/
def xw8_init (x0 : Nat) (x1 : Nat) (x2 : Int32) (K : XK) (u : XS) (Post : XS → Prop) : Prop :=
  K x0 = (1, 8) ∧
  ∀ u2 : XS, u2 = xsr u x0 7 (some x1) →
  ∀ u11 : XS, u11 = xsi u2 x0 0 x2 →
  xw8_next x0 K u11 (fun u15 =>
    Post u15)
set_option maxHeartbeats 4000000 in
set_option maxRecDepth 100000 in
theorem mxw8_init (l : Launch) (hfl : l.stackTraces = false) (D : va_G) (dA aK aV : Nat → Nat) (x0 : Nat) (x1 : Nat) (x2 : Int32) (K : XK) (u : XS) (Post : XS → Prop) (h : xw8_init x0 x1 x2 K u Post) (sz : Nat) : Met l yX8_init (ws_ yX8_init cX8_init 3 (Option.none : Option Jvm.ClassFile.FieldType)) (jx_rm 3 61 0 0) (jx_Pc D dA aK aV K u sz [.ref x0, .ref x1, .int x2]) (va_Qv (fun w : XS => Post w) (jx_B D dA K) (AX K sz)) 0 0 (AX K sz) := by
  refine jx_start hfl [.ref x0, .ref x1, .int x2] [(0, .ref x0), (1, .ref x1), (2, .int x2)] (by decide) (Nat.le_of_ble_eq_true rfl) rfl (fun X hX hY hin => ?_)
  unfold xw8_init at h
  refine jj_aload_n hX dX8_init_0 0 rfl 1 rfl ?_
  refine jj_aload_n hX dX8_init_1 1 rfl 2 rfl ?_
  obtain ⟨k2, h⟩ := h
  refine xpf8_7 (v := (some x1)) hX hY hin rfl k2 dX8_init_2 q665 5 rfl (fun u2 e2 => ?_)
  have h := h u2 e2
  refine jj_aload_n hX dX8_init_5 0 rfl 6 rfl ?_
  refine jj_oinit hX q636 (Nat.le_of_ble_eq_true rfl) (Nat.le_of_ble_eq_true rfl) (Nat.le_of_ble_eq_true rfl) dX8_init_6 9 rfl ?_
  refine jj_aload_n hX dX8_init_9 0 rfl 10 rfl ?_
  refine jj_iload_n hX dX8_init_10 2 rfl 11 rfl ?_
  refine xpf8_0 hX hY hin rfl k2 dX8_init_11 q658 14 rfl (fun u11 e11 => ?_)
  have h := h u11 e11
  refine jj_aload_n hX dX8_init_14 0 rfl 15 rfl ?_
  refine kxw8_next hX hY k2 q637 (Nat.le_of_ble_eq_true rfl) (Nat.le_of_ble_eq_true rfl) (Nat.zero_le _) (Nat.zero_le _) (Nat.le_of_ble_eq_true rfl) dX8_init_15 18 rfl h (fun u15 h => ?_)
  exact jj_retv (post := (fun w : XS => Post w)) (u := u15) hX dX8_init_18 (Nat.le_refl 0) (Nat.le_refl 0) jx_hB h
theorem hd_xw8_init : yX8_init.cls ≠ "java/lang/invoke/MethodHandle" ∧ yX8_init.cls ≠ "java/lang/invoke/VarHandle" ∧ (parseMethodDescriptor yX8_init.desc).map (fun d => d.parameters.length) = some 2 := by decide +kernel
theorem kxw8_init {X : JC} {A : Nat → Prop} {Q : State → Prop} {nL k n pc : Nat} {lv : List (Nat × Value)} {st : List Value} {own : String} {cc : ByteArray} {ret : Option FieldType} {F LL mc ms ix : Nat} {D : va_G} {dA aK aV : Nat → Nat} {K : XK} {u : XS} {x0 : Nat} {x1 : Nat} {x2 : Int32} {Post : XS → Prop} (hX : JX X own cc nL ret F LL mc ms) (hY : JY X D dA aK aV A) (hlk : (Cond.methodLink own ix yX8_init) ∈ lw_all) (hF : 3 + 1 ≤ F) (hL : 8 + (3 + 11) + 61 ≤ LL) (hk : k ≤ mc) (hk2 : n ≤ ms) (hw : (st.map fun v => v.category).sum ≤ 8) (d : decode cc pc = .ok (.invokespecial ix, 3)) (q : Nat) (hq : pc + 3 = q) (h : xw8_init x0 x1 x2 K u  Post) (kk : ∀ (u2 : XS), Post u2 → JJ X A Q nL (XP D dA A K u2) k n q lv (st)) : JJ X A Q nL (XP D dA A K u) k n pc lv (.int x2 :: .ref x1 :: .ref x0 :: st) :=
  jx_callIv (na := 2) (As := [.ref x1, .int x2]) hX hY (fun sz => mxw8_init (jj_l X) hY.2.2.2.2 D dA aK aV x0 x1 x2 K u  Post h sz) hlk q634 q136 rfl q635 hd_xw8_init rfl rfl hw hF hL hk hk2 d q hq kk
theorem knxw8_init {X : JC} {A : Nat → Prop} {Q : State → Prop} {nL k n pc : Nat} {lv : List (Nat × Value)} {st : List Value} {own : String} {cc : ByteArray} {ret : Option FieldType} {F LL mc ms ix : Nat} {D : va_G} {dA aK aV : Nat → Nat} {K : XK} {u : XS} {x0 : Nat} {x1 : Nat} {x2 : Int32} {host : String} {Post : XS → Prop} (hX : JX X own cc nL ret F LL mc ms) (hY : JY X D dA aK aV A) (hlk : (Cond.methodLinkNest own ix yX8_init host) ∈ jx_nest) (hF : 3 + 1 ≤ F) (hL : 8 + (3 + 11) + 61 ≤ LL) (hk : k ≤ mc) (hk2 : n ≤ ms) (hw : (st.map fun v => v.category).sum ≤ 8) (d : decode cc pc = .ok (.invokespecial ix, 3)) (q : Nat) (hq : pc + 3 = q) (h : xw8_init x0 x1 x2 K u  Post) (kk : ∀ (u2 : XS), Post u2 → JJ X A Q nL (XP D dA A K u2) k n q lv (st)) : JJ X A Q nL (XP D dA A K u) k n pc lv (.int x2 :: .ref x1 :: .ref x0 :: st) :=
  jx_callINv (na := 2) (As := [.ref x1, .int x2]) hX hY (fun sz => mxw8_init (jj_l X) hY.2.2.2.2 D dA aK aV x0 x1 x2 K u  Post h sz) hlk q634 q136 rfl q635 hd_xw8_init rfl rfl hw hF hL hk hk2 d q hq kk
/-- RaisedPress$Reader.wrong()LRaisedPress$Bad; -/
def xw8_wrong (x0 : Nat) (K : XK) (u : XS) (Post : Nat → XS → Prop) : Prop :=
  K x0 = (1, 8) ∧
  ∃ b4, (xr u x0 7) = some b4 ∧
  K b4 = (1, 0) ∧
  (¬ (xi u x0 3) = (4 : Int32) →
    ∃ b24, (xr u b4 1) = some b24 ∧
    K b24 = (1, 2) ∧
    xw2_at b24 (2 : Int32) (xi u x0 1) K u (fun r24 u24 =>
      Post r24 u24)) ∧
  ((xi u x0 3) = (4 : Int32) →
    ∃ b24, (xr u b4 1) = some b24 ∧
    K b24 = (1, 2) ∧
    xw2_at b24 (1 : Int32) (xi u x0 1) K u (fun r24 u24 =>
      Post r24 u24))
set_option maxHeartbeats 4000000 in
set_option maxRecDepth 100000 in
theorem mxw8_wrong (l : Launch) (hfl : l.stackTraces = false) (D : va_G) (dA aK aV : Nat → Nat) (x0 : Nat) (K : XK) (u : XS) (Post : Nat → XS → Prop) (h : xw8_wrong x0 K u Post) (sz : Nat) : Met l yX8_wrong (ws_ yX8_wrong cX8_wrong 1 (Option.some (Jvm.ClassFile.FieldType.object "RaisedPress$Bad"))) (jx_rm 1 22 0 0) (jx_Pc D dA aK aV K u sz [.ref x0]) (jx_Qr (fun (r : Nat) (w : XS) => Post r w) (jx_B D dA K) (AX K sz)) 0 0 (AX K sz) := by
  refine jx_start hfl [.ref x0] [(0, .ref x0)] (by decide) (Nat.le_of_ble_eq_true rfl) rfl (fun X hX hY hin => ?_)
  unfold xw8_wrong at h
  refine jj_aload_n hX dX8_wrong_0 0 rfl 1 rfl ?_
  obtain ⟨k1, h⟩ := h
  refine xg8_7 hX hY k1 dX8_wrong_1 q665 4 rfl ?_
  obtain ⟨b4, g4, h⟩ := h
  refine jj_st (st2 := [.ref b4]) (by rw [va_rf_some g4]) ?_
  obtain ⟨k4, h⟩ := h
  refine xgn0_1 hX hY k4 dX8_wrong_4 nq409 7 rfl ?_
  refine jj_aload_n hX dX8_wrong_7 0 rfl 8 rfl ?_
  refine xg8_3 hX hY k1 dX8_wrong_8 q661 11 rfl ?_
  refine jj_iconst hX dX8_wrong_11 ci_4 12 rfl ?_
  refine jj_icmp_ne hX dX8_wrong_12 19 15 (by decide) rfl (fun c12 => ?_) (fun c12 => ?_)
  · have h := h.1 c12
    refine jj_iconst hX dX8_wrong_19 ci_2 20 rfl ?_
    refine jj_aload_n hX dX8_wrong_20 0 rfl 21 rfl ?_
    refine xg8_1 hX hY k1 dX8_wrong_21 q659 24 rfl ?_
    obtain ⟨b24, g24, h⟩ := h
    refine jj_st (st2 := [.int (xi u x0 1), .int (2 : Int32), .ref b24]) (by rw [va_rf_some g24]) ?_
    obtain ⟨k24, h⟩ := h
    refine kxw2_at hX hY k24 q744 (Nat.le_of_ble_eq_true rfl) (Nat.le_of_ble_eq_true rfl) (Nat.zero_le _) (Nat.zero_le _) (Nat.le_of_ble_eq_true rfl) dX8_wrong_24 27 rfl h (fun r24 u24 h => ?_)
    exact jj_retr (post := (fun (r : Nat) (w : XS) => Post r w)) (u := u24) hX (by first | exact Or.inl ⟨_, rfl⟩ | exact Or.inr ⟨_, rfl⟩) dX8_wrong_27 (Nat.le_refl 0) (Nat.le_refl 0) jx_hB h
  · have h := h.2 c12
    refine jj_iconst hX dX8_wrong_15 ci_1 16 rfl ?_
    refine jj_goto hX dX8_wrong_16 20 (by decide) ?_
    refine jj_aload_n hX dX8_wrong_20 0 rfl 21 rfl ?_
    refine xg8_1 hX hY k1 dX8_wrong_21 q659 24 rfl ?_
    obtain ⟨b24, g24, h⟩ := h
    refine jj_st (st2 := [.int (xi u x0 1), .int (1 : Int32), .ref b24]) (by rw [va_rf_some g24]) ?_
    obtain ⟨k24, h⟩ := h
    refine kxw2_at hX hY k24 q744 (Nat.le_of_ble_eq_true rfl) (Nat.le_of_ble_eq_true rfl) (Nat.zero_le _) (Nat.zero_le _) (Nat.le_of_ble_eq_true rfl) dX8_wrong_24 27 rfl h (fun r24 u24 h => ?_)
    exact jj_retr (post := (fun (r : Nat) (w : XS) => Post r w)) (u := u24) hX (by first | exact Or.inl ⟨_, rfl⟩ | exact Or.inr ⟨_, rfl⟩) dX8_wrong_27 (Nat.le_refl 0) (Nat.le_refl 0) jx_hB h
theorem hd_xw8_wrong : yX8_wrong.cls ≠ "java/lang/invoke/MethodHandle" ∧ yX8_wrong.cls ≠ "java/lang/invoke/VarHandle" ∧ (parseMethodDescriptor yX8_wrong.desc).map (fun d => d.parameters.length) = some 0 := by decide +kernel
theorem kxw8_wrong {X : JC} {A : Nat → Prop} {Q : State → Prop} {nL k n pc : Nat} {lv : List (Nat × Value)} {st : List Value} {own : String} {cc : ByteArray} {ret : Option FieldType} {F LL mc ms ix : Nat} {D : va_G} {dA aK aV : Nat → Nat} {K : XK} {u : XS} {x0 : Nat} {Post : Nat → XS → Prop} (hX : JX X own cc nL ret F LL mc ms) (hY : JY X D dA aK aV A) (h1a : K x0 = (1, 8)) (hlk : (Cond.methodLink own ix yX8_wrong) ∈ lw_all) (hF : 1 + 1 ≤ F) (hL : 8 + (1 + 11) + 22 ≤ LL) (hk : k ≤ mc) (hk2 : n ≤ ms) (hw : (st.map fun v => v.category).sum ≤ 8) (d : decode cc pc = .ok (.invokevirtual ix, 3)) (q : Nat) (hq : pc + 3 = q) (h : xw8_wrong x0 K u  Post) (kk : ∀ (r : Nat) (u2 : XS), Post r u2 → JJ X A Q nL (XP D dA A K u2) k n q lv (.ref r :: st)) : JJ X A Q nL (XP D dA A K u) k n pc lv (.ref x0 :: st) :=
  jx_callVr (na := 0) (As := []) hX hY jf8 h1a (fun sz => mxw8_wrong (jj_l X) hY.2.2.2.2 D dA aK aV x0 K u  Post h sz) hlk q750 qs12 q136 q751 ⟨rfl, hd_xw8_wrong⟩ rfl rfl hw hF hL hk hk2 d q hq kk
theorem knxw8_wrong {X : JC} {A : Nat → Prop} {Q : State → Prop} {nL k n pc : Nat} {lv : List (Nat × Value)} {st : List Value} {own : String} {cc : ByteArray} {ret : Option FieldType} {F LL mc ms ix : Nat} {D : va_G} {dA aK aV : Nat → Nat} {K : XK} {u : XS} {x0 : Nat} {host : String} {Post : Nat → XS → Prop} (hX : JX X own cc nL ret F LL mc ms) (hY : JY X D dA aK aV A) (h1a : K x0 = (1, 8)) (hlk : (Cond.methodLinkNest own ix yX8_wrong host) ∈ jx_nest) (hF : 1 + 1 ≤ F) (hL : 8 + (1 + 11) + 22 ≤ LL) (hk : k ≤ mc) (hk2 : n ≤ ms) (hw : (st.map fun v => v.category).sum ≤ 8) (d : decode cc pc = .ok (.invokevirtual ix, 3)) (q : Nat) (hq : pc + 3 = q) (h : xw8_wrong x0 K u  Post) (kk : ∀ (r : Nat) (u2 : XS), Post r u2 → JJ X A Q nL (XP D dA A K u2) k n q lv (.ref r :: st)) : JJ X A Q nL (XP D dA A K u) k n pc lv (.ref x0 :: st) :=
  jx_callNr (na := 0) (As := []) hX hY jf8 h1a (fun sz => mxw8_wrong (jj_l X) hY.2.2.2.2 D dA aK aV x0 K u  Post h sz) hlk q750 qs12 q136 q751 hd_xw8_wrong rfl rfl hw hF hL hk hk2 d q hq kk
/-- RaisedPress$Reader.number(II)I -/
def xw8_number (x0 : Nat) (x1 : Int32) (x2 : Int32) (K : XK) (u : XS) (mc ms : Nat) (Post : Int32 → XK → XS → Prop) (PX : Nat → XK → XS → Prop) : Prop :=
  K x0 = (1, 8) ∧
  ((xi u x0 3) = (2 : Int32) →
    ((xi u x0 4) < x1 →
      ∃ b33, (xr u x0 7) = some b33 ∧
      K b33 = (1, 0) ∧
      ∃ b41, (xr u b33 1) = some b41 ∧
      K b41 = (1, 2) ∧
      xw2_at b41 (4 : Int32) (xi u x0 1) K u (fun r41 u41 =>
        K r41 = (1, 2) ∧
        PX r41 K u41)) ∧
    (¬ (xi u x0 4) < x1 →
      ((xi u x0 4) ≤ x2 →
        ∀ v49 : Int32, v49 = (xi u x0 4) →
        xw8_next x0 K u (fun u51 =>
          Post v49 K u51)) ∧
      (¬ (xi u x0 4) ≤ x2 →
        ∃ b33, (xr u x0 7) = some b33 ∧
        K b33 = (1, 0) ∧
        ∃ b41, (xr u b33 1) = some b41 ∧
        K b41 = (1, 2) ∧
        xw2_at b41 (4 : Int32) (xi u x0 1) K u (fun r41 u41 =>
          K r41 = (1, 2) ∧
          PX r41 K u41)))) ∧
  (¬ (xi u x0 3) = (2 : Int32) →
    xw8_wrong x0 K u (fun r9 u9 =>
      K r9 = (1, 2) ∧
      PX r9 K u9))
set_option maxHeartbeats 4000000 in
set_option maxRecDepth 100000 in
theorem mxw8_number (l : Launch) (hfl : l.stackTraces = false) (D : va_G) (dA aK aV : Nat → Nat) (x0 : Nat) (x1 : Int32) (x2 : Int32) (K : XK) (u : XS) (mc ms : Nat) (Post : Int32 → XK → XS → Prop) (PX : Nat → XK → XS → Prop) (h : xw8_number x0 x1 x2 K u mc ms Post PX) (sz : Nat) : vx_Met l yX8_number (ws_ yX8_number cX8_number 4 (Option.some Jvm.ClassFile.FieldType.int)) (jx_rm 3 61 mc ms) (jx_Pc D dA aK aV K u sz [.ref x0, .int x1, .int x2]) (va_Qi (fun (r : Int32) (w : XK × XS) => Post r w.1 w.2) (jx_BA D dA K sz) (AX K sz)) (jx_XC 2 PX D dA K sz (AX K sz)) mc ms (AX K sz) := by
  refine jx_startT hfl [.ref x0, .int x1, .int x2] [(0, .ref x0), (1, .int x1), (2, .int x2)] (by decide) (Nat.le_of_ble_eq_true rfl) rfl (fun X hX hY hE => ?_)
  unfold xw8_number at h
  refine jj_aload_n hX dX8_number_0 0 rfl 1 rfl ?_
  obtain ⟨k1, h⟩ := h
  refine xg8_3 hX hY k1 dX8_number_1 q661 4 rfl ?_
  refine jj_iconst hX dX8_number_4 ci_2 5 rfl ?_
  refine jj_icmp_eq hX dX8_number_5 13 8 (by decide) rfl (fun c5 => ?_) (fun c5 => ?_)
  · have h := h.1 c5
    refine jj_aload_n hX dX8_number_13 0 rfl 14 rfl ?_
    refine xg8_4 hX hY k1 dX8_number_14 q662 17 rfl ?_
    refine jj_iload_n hX dX8_number_17 1 rfl 18 rfl ?_
    refine jj_icmp_lt hX dX8_number_18 29 21 (by decide) rfl (fun c18 => ?_) (fun c18 => ?_)
    · have h := h.1 c18
      refine jj_aload_n hX dX8_number_29 0 rfl 30 rfl ?_
      refine xg8_7 hX hY k1 dX8_number_30 q665 33 rfl ?_
      obtain ⟨b33, g33, h⟩ := h
      refine jj_st (st2 := [.ref b33]) (by rw [va_rf_some g33]) ?_
      obtain ⟨k33, h⟩ := h
      refine xgn0_1 hX hY k33 dX8_number_33 nq409 36 rfl ?_
      refine jj_iconst hX dX8_number_36 ci_4 37 rfl ?_
      refine jj_aload_n hX dX8_number_37 0 rfl 38 rfl ?_
      refine xg8_1 hX hY k1 dX8_number_38 q659 41 rfl ?_
      obtain ⟨b41, g41, h⟩ := h
      refine jj_st (st2 := [.int (xi u x0 1), .int (4 : Int32), .ref b41]) (by rw [va_rf_some g41]) ?_
      obtain ⟨k41, h⟩ := h
      refine kxw2_at hX hY k41 q744 (Nat.le_of_ble_eq_true rfl) (Nat.le_of_ble_eq_true rfl) (Nat.zero_le _) (Nat.zero_le _) (Nat.le_of_ble_eq_true rfl) dX8_number_41 44 rfl h (fun r41 u41 h => ?_)
      obtain ⟨k44, h⟩ := h
      refine jj_athrow hX hY jf2 k44 dX8_number_44 ?_
      exact jt_out (e := 2) hX hE (Nat.zero_le _) (Nat.zero_le _) XLe.rf h
    · have h := h.2 c18
      refine jj_aload_n hX dX8_number_21 0 rfl 22 rfl ?_
      refine xg8_4 hX hY k1 dX8_number_22 q662 25 rfl ?_
      refine jj_iload_n hX dX8_number_25 2 rfl 26 rfl ?_
      refine jj_icmp_le hX dX8_number_26 45 29 (by decide) rfl (fun c26 => ?_) (fun c26 => ?_)
      · have h := h.1 c26
        refine jj_aload_n hX dX8_number_45 0 rfl 46 rfl ?_
        refine xg8_4 hX hY k1 dX8_number_46 q662 49 rfl ?_
        refine jj_topi (fun v49 e49 => ?_)
        have h := h v49 e49
        refine jj_istore_n (lv2 := [(0, .ref x0), (3, .int v49)]) hX dX8_number_49 (Nat.le_of_ble_eq_true rfl) [1, 0] rfl 50 rfl ?_
        refine jj_aload_n hX dX8_number_50 0 rfl 51 rfl ?_
        refine kxw8_next hX hY k1 q637 (Nat.le_of_ble_eq_true rfl) (Nat.le_of_ble_eq_true rfl) (Nat.zero_le _) (Nat.zero_le _) (Nat.le_of_ble_eq_true rfl) dX8_number_51 54 rfl h (fun u51 h => ?_)
        refine jj_iload_n hX dX8_number_54 1 rfl 55 rfl ?_
        exact jt_ret (jj_reti (post := (fun (r : Int32) (w : XK × XS) => Post r w.1 w.2)) (u := (K, u51)) hX dX8_number_55 (Nat.zero_le _) (Nat.zero_le _) (jx_hBA XLe.rf) h)
      · have h := h.2 c26
        refine jj_aload_n hX dX8_number_29 0 rfl 30 rfl ?_
        refine xg8_7 hX hY k1 dX8_number_30 q665 33 rfl ?_
        obtain ⟨b33, g33, h⟩ := h
        refine jj_st (st2 := [.ref b33]) (by rw [va_rf_some g33]) ?_
        obtain ⟨k33, h⟩ := h
        refine xgn0_1 hX hY k33 dX8_number_33 nq409 36 rfl ?_
        refine jj_iconst hX dX8_number_36 ci_4 37 rfl ?_
        refine jj_aload_n hX dX8_number_37 0 rfl 38 rfl ?_
        refine xg8_1 hX hY k1 dX8_number_38 q659 41 rfl ?_
        obtain ⟨b41, g41, h⟩ := h
        refine jj_st (st2 := [.int (xi u x0 1), .int (4 : Int32), .ref b41]) (by rw [va_rf_some g41]) ?_
        obtain ⟨k41, h⟩ := h
        refine kxw2_at hX hY k41 q744 (Nat.le_of_ble_eq_true rfl) (Nat.le_of_ble_eq_true rfl) (Nat.zero_le _) (Nat.zero_le _) (Nat.le_of_ble_eq_true rfl) dX8_number_41 44 rfl h (fun r41 u41 h => ?_)
        obtain ⟨k44, h⟩ := h
        refine jj_athrow hX hY jf2 k44 dX8_number_44 ?_
        exact jt_out (e := 2) hX hE (Nat.zero_le _) (Nat.zero_le _) XLe.rf h
  · have h := h.2 c5
    refine jj_aload_n hX dX8_number_8 0 rfl 9 rfl ?_
    refine kxw8_wrong hX hY k1 q748 (Nat.le_of_ble_eq_true rfl) (Nat.le_of_ble_eq_true rfl) (Nat.zero_le _) (Nat.zero_le _) (Nat.le_of_ble_eq_true rfl) dX8_number_9 12 rfl h (fun r9 u9 h => ?_)
    obtain ⟨k12, h⟩ := h
    refine jj_athrow hX hY jf2 k12 dX8_number_12 ?_
    exact jt_out (e := 2) hX hE (Nat.zero_le _) (Nat.zero_le _) XLe.rf h
theorem hd_xw8_number : yX8_number.cls ≠ "java/lang/invoke/MethodHandle" ∧ yX8_number.cls ≠ "java/lang/invoke/VarHandle" ∧ (parseMethodDescriptor yX8_number.desc).map (fun d => d.parameters.length) = some 2 := by decide +kernel
theorem kxw8_number {X : JC} {A : Nat → Prop} {Q : State → Prop} {nL k n pc : Nat} {lv : List (Nat × Value)} {st : List Value} {own : String} {cc : ByteArray} {ret : Option FieldType} {F LL mc ms ix mc2 ms2 : Nat} {D : va_G} {dA aK aV : Nat → Nat} {K : XK} {u : XS} {x0 : Nat} {x1 : Int32} {x2 : Int32} {Post : Int32 → XK → XS → Prop} {PX : Nat → XK → XS → Prop} (hX : JX X own cc nL ret F LL mc ms) (hY : JY X D dA aK aV A) (h1a : K x0 = (1, 8)) (hlk : (Cond.methodLink own ix yX8_number) ∈ lw_all) (hF : 3 + 1 ≤ F) (hL : 8 + (4 + 11) + 61 ≤ LL) (hk : k + mc2 ≤ mc) (hk2 : n + ms2 ≤ ms) (hw : (st.map fun v => v.category).sum ≤ 8) (d : decode cc pc = .ok (.invokevirtual ix, 3)) (q : Nat) (hq : pc + 3 = q) (h : xw8_number x0 x1 x2 K u mc2 ms2 Post PX) (kx : ∀ (q9 : Nat) (K2 : XK) (u2 : XS), XLe K K2 → PX q9 K2 u2 → JT X A Q nL (XP D dA A K2 u2) (k + mc2) (n + ms2) pc lv (jx_en 2) q9) (kk : ∀ (r : Int32) (K2 : XK) (u2 : XS), XLe K K2 → Post r K2 u2 → JJ X A Q nL (XP D dA A K2 u2) (k + mc2) (n + ms2) q lv (.int r :: st)) : JJ X A Q nL (XP D dA A K u) k n pc lv (.int x2 :: .int x1 :: .ref x0 :: st) :=
  jx_callTVi (na := 2) (As := [.int x1, .int x2]) hX hY jf8 h1a (fun sz => mxw8_number (jj_l X) hY.2.2.2.2 D dA aK aV x0 x1 x2 K u mc2 ms2 Post PX h sz) hlk q756 qs13 q136 q757 ⟨rfl, hd_xw8_number⟩ rfl rfl hw hF hL hk hk2 d q hq kx kk
/-- RaisedPress$Reader.once(ZII)I -/
def xw8_once (x0 : Nat) (x1 : Int32) (x2 : Int32) (x3 : Int32) (K : XK) (u : XS) (mc ms : Nat) (Post : Int32 → XK → XS → Prop) (PX : Nat → XK → XS → Prop) : Prop :=
  (x1 = 0 →
    K x0 = (1, 8) ∧
    xw8_next x0 K u (fun u21 =>
      ∃ m27 w27, m27 ≤ mc ∧ w27 ≤ ms ∧ xw8_number x0 x2 x3 K u21 m27 w27 (fun r27 K27 u27 =>
        Post r27 K27 u27) (fun q27 K27 u27 =>
        PX q27 K27 u27))) ∧
  (¬ x1 = 0 →
    K x0 = (1, 8) ∧
    ∃ b8, (xr u x0 7) = some b8 ∧
    K b8 = (1, 0) ∧
    ∃ b16, (xr u b8 1) = some b16 ∧
    K b16 = (1, 2) ∧
    xw2_at b16 (5 : Int32) (xi u x0 1) K u (fun r16 u16 =>
      K r16 = (1, 2) ∧
      PX r16 K u16))
set_option maxHeartbeats 4000000 in
set_option maxRecDepth 100000 in
theorem mxw8_once (l : Launch) (hfl : l.stackTraces = false) (D : va_G) (dA aK aV : Nat → Nat) (x0 : Nat) (x1 : Int32) (x2 : Int32) (x3 : Int32) (K : XK) (u : XS) (mc ms : Nat) (Post : Int32 → XK → XS → Prop) (PX : Nat → XK → XS → Prop) (h : xw8_once x0 x1 x2 x3 K u mc ms Post PX) (sz : Nat) : vx_Met l yX8_once (ws_ yX8_once cX8_once 4 (Option.some Jvm.ClassFile.FieldType.int)) (jx_rm 4 84 mc ms) (jx_Pc D dA aK aV K u sz [.ref x0, .int x1, .int x2, .int x3]) (va_Qi (fun (r : Int32) (w : XK × XS) => Post r w.1 w.2) (jx_BA D dA K sz) (AX K sz)) (jx_XC 2 PX D dA K sz (AX K sz)) mc ms (AX K sz) := by
  refine jx_startT hfl [.ref x0, .int x1, .int x2, .int x3] [(0, .ref x0), (1, .int x1), (2, .int x2), (3, .int x3)] (by decide) (Nat.le_of_ble_eq_true rfl) rfl (fun X hX hY hE => ?_)
  unfold xw8_once at h
  refine jj_iload_n hX dX8_once_0 1 rfl 1 rfl ?_
  refine jj_if_eq hX dX8_once_1 20 4 (by decide) rfl (fun c1 => ?_) (fun c1 => ?_)
  · have h := h.1 c1
    refine jj_aload_n hX dX8_once_20 0 rfl 21 rfl ?_
    obtain ⟨k21, h⟩ := h
    refine kxw8_next hX hY k21 q637 (Nat.le_of_ble_eq_true rfl) (Nat.le_of_ble_eq_true rfl) (Nat.zero_le _) (Nat.zero_le _) (Nat.le_of_ble_eq_true rfl) dX8_once_21 24 rfl h (fun u21 h => ?_)
    refine jj_aload_n hX dX8_once_24 0 rfl 25 rfl ?_
    refine jj_iload_n hX dX8_once_25 2 rfl 26 rfl ?_
    refine jj_iload_n hX dX8_once_26 3 rfl 27 rfl ?_
    obtain ⟨m27, w27, hc27, hs27, h⟩ := h
    refine kxw8_number hX hY k21 q754 (Nat.le_of_ble_eq_true rfl) (Nat.le_of_ble_eq_true rfl) (by simpa using hc27) (by simpa using hs27) (Nat.le_of_ble_eq_true rfl) dX8_once_27 30 rfl h (fun q27 K27 u27 hle27 h => jt_cs (k2 := m27) (n2 := w27) (by simp) (by simp) ?_) (fun r27 K27 u27 hle27 h => jj_cs (k2 := m27) (n2 := w27) (by simp) (by simp) ?_)
    · have k27 := hle27.at k21 (by simp)
      have hl27 := XLe.rf.tr hle27
      exact jt_out (e := 2) hX hE hc27 hs27 hl27 h
    · have k27 := hle27.at k21 (by simp)
      have hl27 := XLe.rf.tr hle27
      exact jt_ret (jj_reti (post := (fun (r : Int32) (w : XK × XS) => Post r w.1 w.2)) (u := (K27, u27)) hX dX8_once_30 hc27 hs27 (jx_hBA hl27) h)
  · have h := h.2 c1
    refine jj_aload_n hX dX8_once_4 0 rfl 5 rfl ?_
    obtain ⟨k5, h⟩ := h
    refine xg8_7 hX hY k5 dX8_once_5 q665 8 rfl ?_
    obtain ⟨b8, g8, h⟩ := h
    refine jj_st (st2 := [.ref b8]) (by rw [va_rf_some g8]) ?_
    obtain ⟨k8, h⟩ := h
    refine xgn0_1 hX hY k8 dX8_once_8 nq409 11 rfl ?_
    refine jj_iconst hX dX8_once_11 ci_5 12 rfl ?_
    refine jj_aload_n hX dX8_once_12 0 rfl 13 rfl ?_
    refine xg8_1 hX hY k5 dX8_once_13 q659 16 rfl ?_
    obtain ⟨b16, g16, h⟩ := h
    refine jj_st (st2 := [.int (xi u x0 1), .int (5 : Int32), .ref b16]) (by rw [va_rf_some g16]) ?_
    obtain ⟨k16, h⟩ := h
    refine kxw2_at hX hY k16 q744 (Nat.le_of_ble_eq_true rfl) (Nat.le_of_ble_eq_true rfl) (Nat.zero_le _) (Nat.zero_le _) (Nat.le_of_ble_eq_true rfl) dX8_once_16 19 rfl h (fun r16 u16 h => ?_)
    obtain ⟨k19, h⟩ := h
    refine jj_athrow hX hY jf2 k19 dX8_once_19 ?_
    exact jt_out (e := 2) hX hE (Nat.zero_le _) (Nat.zero_le _) XLe.rf h
theorem hd_xw8_once : yX8_once.cls ≠ "java/lang/invoke/MethodHandle" ∧ yX8_once.cls ≠ "java/lang/invoke/VarHandle" ∧ (parseMethodDescriptor yX8_once.desc).map (fun d => d.parameters.length) = some 3 := by decide +kernel
theorem kxw8_once {X : JC} {A : Nat → Prop} {Q : State → Prop} {nL k n pc : Nat} {lv : List (Nat × Value)} {st : List Value} {own : String} {cc : ByteArray} {ret : Option FieldType} {F LL mc ms ix mc2 ms2 : Nat} {D : va_G} {dA aK aV : Nat → Nat} {K : XK} {u : XS} {x0 : Nat} {x1 : Int32} {x2 : Int32} {x3 : Int32} {Post : Int32 → XK → XS → Prop} {PX : Nat → XK → XS → Prop} (hX : JX X own cc nL ret F LL mc ms) (hY : JY X D dA aK aV A) (h1a : K x0 = (1, 8)) (hlk : (Cond.methodLink own ix yX8_once) ∈ lw_all) (hF : 4 + 1 ≤ F) (hL : 8 + (4 + 11) + 84 ≤ LL) (hk : k + mc2 ≤ mc) (hk2 : n + ms2 ≤ ms) (hw : (st.map fun v => v.category).sum ≤ 8) (d : decode cc pc = .ok (.invokevirtual ix, 3)) (q : Nat) (hq : pc + 3 = q) (h : xw8_once x0 x1 x2 x3 K u mc2 ms2 Post PX) (kx : ∀ (q9 : Nat) (K2 : XK) (u2 : XS), XLe K K2 → PX q9 K2 u2 → JT X A Q nL (XP D dA A K2 u2) (k + mc2) (n + ms2) pc lv (jx_en 2) q9) (kk : ∀ (r : Int32) (K2 : XK) (u2 : XS), XLe K K2 → Post r K2 u2 → JJ X A Q nL (XP D dA A K2 u2) (k + mc2) (n + ms2) q lv (.int r :: st)) : JJ X A Q nL (XP D dA A K u) k n pc lv (.int x3 :: .int x2 :: .int x1 :: .ref x0 :: st) :=
  jx_callTVi (na := 3) (As := [.int x1, .int x2, .int x3]) hX hY jf8 h1a (fun sz => mxw8_once (jj_l X) hY.2.2.2.2 D dA aK aV x0 x1 x2 x3 K u mc2 ms2 Post PX h sz) hlk q853 qs15 q136 q854 ⟨rfl, hd_xw8_once⟩ rfl rfl hw hF hL hk hk2 d q hq kx kk
/-- RaisedPress$Reader.line(LRaisedPress$Table;)V -/
def xw8_line (x0 : Nat) (x1 : Nat) (K : XK) (u : XS) (mc ms : Nat) (Post : XK → XS → Prop) (PX : Nat → XK → XS → Prop) : Prop :=
  K x0 = (1, 8) ∧
  ∃ m9 w9, m9 ≤ mc ∧ w9 ≤ ms ∧ xw8_once x0 (xi u x0 5) (4 : Int32) (40 : Int32) K u m9 w9 (fun r9 K9 u9 =>
    K9 x1 = (1, 5) ∧
    ∀ u12 : XS, u12 = xsi u9 x1 5 r9 →
    ∀ u17 : XS, u17 = xsi u12 x0 5 (1 : Int32) →
    Post K9 u17) (fun q9 K9 u9 =>
    PX q9 K9 u9)
set_option maxHeartbeats 4000000 in
set_option maxRecDepth 100000 in
theorem mxw8_line (l : Launch) (hfl : l.stackTraces = false) (D : va_G) (dA aK aV : Nat → Nat) (x0 : Nat) (x1 : Nat) (K : XK) (u : XS) (mc ms : Nat) (Post : XK → XS → Prop) (PX : Nat → XK → XS → Prop) (h : xw8_line x0 x1 K u mc ms Post PX) (sz : Nat) : vx_Met l yX8_line (ws_ yX8_line cX8_line 2 (Option.none : Option Jvm.ClassFile.FieldType)) (jx_rm 5 107 mc ms) (jx_Pc D dA aK aV K u sz [.ref x0, .ref x1]) (va_Qv (fun w : XK × XS => Post w.1 w.2) (jx_BA D dA K sz) (AX K sz)) (jx_XC 2 PX D dA K sz (AX K sz)) mc ms (AX K sz) := by
  refine jx_startT hfl [.ref x0, .ref x1] [(0, .ref x0), (1, .ref x1)] (by decide) (Nat.le_of_ble_eq_true rfl) rfl (fun X hX hY hE => ?_)
  unfold xw8_line at h
  refine jj_aload_n hX dX8_line_0 1 rfl 1 rfl ?_
  refine jj_aload_n hX dX8_line_1 0 rfl 2 rfl ?_
  refine jj_aload_n hX dX8_line_2 0 rfl 3 rfl ?_
  obtain ⟨k3, h⟩ := h
  refine xg8_5 hX hY k3 dX8_line_3 q663 6 rfl ?_
  refine jj_iconst hX dX8_line_6 ci_4 7 rfl ?_
  refine jj_bipush hX dX8_line_7 cb_40 9 rfl ?_
  obtain ⟨m9, w9, hc9, hs9, h⟩ := h
  refine kxw8_once hX hY k3 q851 (Nat.le_of_ble_eq_true rfl) (Nat.le_of_ble_eq_true rfl) (by simpa using hc9) (by simpa using hs9) (Nat.le_of_ble_eq_true rfl) dX8_line_9 12 rfl h (fun q9 K9 u9 hle9 h => jt_cs (k2 := m9) (n2 := w9) (by simp) (by simp) ?_) (fun r9 K9 u9 hle9 h => jj_cs (k2 := m9) (n2 := w9) (by simp) (by simp) ?_)
  · have k9 := hle9.at k3 (by simp)
    have hl9 := XLe.rf.tr hle9
    exact jt_out (e := 2) hX hE hc9 hs9 hl9 h
  · have k9 := hle9.at k3 (by simp)
    have hl9 := XLe.rf.tr hle9
    obtain ⟨k12, h⟩ := h
    refine xpn5_5 hX hY k12 dX8_line_12 nq293 15 rfl (fun u12 e12 => ?_)
    have h := h u12 e12
    refine jj_aload_n hX dX8_line_15 0 rfl 16 rfl ?_
    refine jj_iconst hX dX8_line_16 ci_1 17 rfl ?_
    refine xp8_5 hX hY k9 rfl rfl dX8_line_17 q663 20 rfl (fun u17 e17 => ?_)
    have h := h u17 e17
    exact jt_ret (jj_retv (post := (fun w : XK × XS => Post w.1 w.2)) (u := (K9, u17)) hX dX8_line_20 hc9 hs9 (jx_hBA hl9) h)
theorem hd_xw8_line : yX8_line.cls ≠ "java/lang/invoke/MethodHandle" ∧ yX8_line.cls ≠ "java/lang/invoke/VarHandle" ∧ (parseMethodDescriptor yX8_line.desc).map (fun d => d.parameters.length) = some 1 := by decide +kernel
theorem kxw8_line {X : JC} {A : Nat → Prop} {Q : State → Prop} {nL k n pc : Nat} {lv : List (Nat × Value)} {st : List Value} {own : String} {cc : ByteArray} {ret : Option FieldType} {F LL mc ms ix mc2 ms2 : Nat} {D : va_G} {dA aK aV : Nat → Nat} {K : XK} {u : XS} {x0 : Nat} {x1 : Nat} {Post : XK → XS → Prop} {PX : Nat → XK → XS → Prop} (hX : JX X own cc nL ret F LL mc ms) (hY : JY X D dA aK aV A) (h1a : K x0 = (1, 8)) (hlk : (Cond.methodLink own ix yX8_line) ∈ lw_all) (hF : 5 + 1 ≤ F) (hL : 8 + (2 + 11) + 107 ≤ LL) (hk : k + mc2 ≤ mc) (hk2 : n + ms2 ≤ ms) (hw : (st.map fun v => v.category).sum ≤ 8) (d : decode cc pc = .ok (.invokevirtual ix, 3)) (q : Nat) (hq : pc + 3 = q) (h : xw8_line x0 x1 K u mc2 ms2 Post PX) (kx : ∀ (q9 : Nat) (K2 : XK) (u2 : XS), XLe K K2 → PX q9 K2 u2 → JT X A Q nL (XP D dA A K2 u2) (k + mc2) (n + ms2) pc lv (jx_en 2) q9) (kk : ∀ (K2 : XK) (u2 : XS), XLe K K2 → Post K2 u2 → JJ X A Q nL (XP D dA A K2 u2) (k + mc2) (n + ms2) q lv (st)) : JJ X A Q nL (XP D dA A K u) k n pc lv (.ref x1 :: .ref x0 :: st) :=
  jx_callTVv (na := 1) (As := [.ref x1]) hX hY jf8 h1a (fun sz => mxw8_line (jj_l X) hY.2.2.2.2 D dA aK aV x0 x1 K u mc2 ms2 Post PX h sz) hlk q860 qs16 q136 q861 ⟨rfl, hd_xw8_line⟩ rfl rfl hw hF hL hk hk2 d q hq kx kk
/-- RaisedPress$Reader.page(LRaisedPress$Table;)V -/
def xw8_page (x0 : Nat) (x1 : Nat) (K : XK) (u : XS) (mc ms : Nat) (Post : XK → XS → Prop) (PX : Nat → XK → XS → Prop) : Prop :=
  K x0 = (1, 8) ∧
  ∃ m9 w9, m9 ≤ mc ∧ w9 ≤ ms ∧ xw8_once x0 (xi u x0 6) (2 : Int32) (30 : Int32) K u m9 w9 (fun r9 K9 u9 =>
    K9 x1 = (1, 5) ∧
    ∀ u12 : XS, u12 = xsi u9 x1 6 r9 →
    ∀ u17 : XS, u17 = xsi u12 x0 6 (1 : Int32) →
    Post K9 u17) (fun q9 K9 u9 =>
    PX q9 K9 u9)
set_option maxHeartbeats 4000000 in
set_option maxRecDepth 100000 in
theorem mxw8_page (l : Launch) (hfl : l.stackTraces = false) (D : va_G) (dA aK aV : Nat → Nat) (x0 : Nat) (x1 : Nat) (K : XK) (u : XS) (mc ms : Nat) (Post : XK → XS → Prop) (PX : Nat → XK → XS → Prop) (h : xw8_page x0 x1 K u mc ms Post PX) (sz : Nat) : vx_Met l yX8_page (ws_ yX8_page cX8_page 2 (Option.none : Option Jvm.ClassFile.FieldType)) (jx_rm 5 107 mc ms) (jx_Pc D dA aK aV K u sz [.ref x0, .ref x1]) (va_Qv (fun w : XK × XS => Post w.1 w.2) (jx_BA D dA K sz) (AX K sz)) (jx_XC 2 PX D dA K sz (AX K sz)) mc ms (AX K sz) := by
  refine jx_startT hfl [.ref x0, .ref x1] [(0, .ref x0), (1, .ref x1)] (by decide) (Nat.le_of_ble_eq_true rfl) rfl (fun X hX hY hE => ?_)
  unfold xw8_page at h
  refine jj_aload_n hX dX8_page_0 1 rfl 1 rfl ?_
  refine jj_aload_n hX dX8_page_1 0 rfl 2 rfl ?_
  refine jj_aload_n hX dX8_page_2 0 rfl 3 rfl ?_
  obtain ⟨k3, h⟩ := h
  refine xg8_6 hX hY k3 dX8_page_3 q664 6 rfl ?_
  refine jj_iconst hX dX8_page_6 ci_2 7 rfl ?_
  refine jj_bipush hX dX8_page_7 cb_30 9 rfl ?_
  obtain ⟨m9, w9, hc9, hs9, h⟩ := h
  refine kxw8_once hX hY k3 q851 (Nat.le_of_ble_eq_true rfl) (Nat.le_of_ble_eq_true rfl) (by simpa using hc9) (by simpa using hs9) (Nat.le_of_ble_eq_true rfl) dX8_page_9 12 rfl h (fun q9 K9 u9 hle9 h => jt_cs (k2 := m9) (n2 := w9) (by simp) (by simp) ?_) (fun r9 K9 u9 hle9 h => jj_cs (k2 := m9) (n2 := w9) (by simp) (by simp) ?_)
  · have k9 := hle9.at k3 (by simp)
    have hl9 := XLe.rf.tr hle9
    exact jt_out (e := 2) hX hE hc9 hs9 hl9 h
  · have k9 := hle9.at k3 (by simp)
    have hl9 := XLe.rf.tr hle9
    obtain ⟨k12, h⟩ := h
    refine xpn5_6 hX hY k12 dX8_page_12 nq297 15 rfl (fun u12 e12 => ?_)
    have h := h u12 e12
    refine jj_aload_n hX dX8_page_15 0 rfl 16 rfl ?_
    refine jj_iconst hX dX8_page_16 ci_1 17 rfl ?_
    refine xp8_6 hX hY k9 rfl rfl dX8_page_17 q664 20 rfl (fun u17 e17 => ?_)
    have h := h u17 e17
    exact jt_ret (jj_retv (post := (fun w : XK × XS => Post w.1 w.2)) (u := (K9, u17)) hX dX8_page_20 hc9 hs9 (jx_hBA hl9) h)
theorem hd_xw8_page : yX8_page.cls ≠ "java/lang/invoke/MethodHandle" ∧ yX8_page.cls ≠ "java/lang/invoke/VarHandle" ∧ (parseMethodDescriptor yX8_page.desc).map (fun d => d.parameters.length) = some 1 := by decide +kernel
theorem kxw8_page {X : JC} {A : Nat → Prop} {Q : State → Prop} {nL k n pc : Nat} {lv : List (Nat × Value)} {st : List Value} {own : String} {cc : ByteArray} {ret : Option FieldType} {F LL mc ms ix mc2 ms2 : Nat} {D : va_G} {dA aK aV : Nat → Nat} {K : XK} {u : XS} {x0 : Nat} {x1 : Nat} {Post : XK → XS → Prop} {PX : Nat → XK → XS → Prop} (hX : JX X own cc nL ret F LL mc ms) (hY : JY X D dA aK aV A) (h1a : K x0 = (1, 8)) (hlk : (Cond.methodLink own ix yX8_page) ∈ lw_all) (hF : 5 + 1 ≤ F) (hL : 8 + (2 + 11) + 107 ≤ LL) (hk : k + mc2 ≤ mc) (hk2 : n + ms2 ≤ ms) (hw : (st.map fun v => v.category).sum ≤ 8) (d : decode cc pc = .ok (.invokevirtual ix, 3)) (q : Nat) (hq : pc + 3 = q) (h : xw8_page x0 x1 K u mc2 ms2 Post PX) (kx : ∀ (q9 : Nat) (K2 : XK) (u2 : XS), XLe K K2 → PX q9 K2 u2 → JT X A Q nL (XP D dA A K2 u2) (k + mc2) (n + ms2) pc lv (jx_en 2) q9) (kk : ∀ (K2 : XK) (u2 : XS), XLe K K2 → Post K2 u2 → JJ X A Q nL (XP D dA A K2 u2) (k + mc2) (n + ms2) q lv (st)) : JJ X A Q nL (XP D dA A K u) k n pc lv (.ref x1 :: .ref x0 :: st) :=
  jx_callTVv (na := 1) (As := [.ref x1]) hX hY jf8 h1a (fun sz => mxw8_page (jj_l X) hY.2.2.2.2 D dA aK aV x0 x1 K u mc2 ms2 Post PX h sz) hlk q865 qs17 q136 q866 ⟨rfl, hd_xw8_page⟩ rfl rfl hw hF hL hk hk2 d q hq kx kk
def xw9_isLike_L28_S (Post : Int32 → XS → Prop) (K : XK) (x0 : Nat) (x1 : Nat) (R : Int32 → XS → Prop) (x2 : Int32) (u : XS) : Prop :=
  xRule K x0 ∧
  ∃ b33, (xr u x0 0) = some b33 ∧
  ∃ n33, K b33 = (3, n33) ∧
  ((nI n33) ≤ x2 →
    Post (1 : Int32) u) ∧
  (¬ (nI n33) ≤ x2 →
    ∃ b42, (xr u x0 0) = some b42 ∧
    ∃ n42, K b42 = (3, n42) ∧
    vp_in x2 n42 ∧
    xRule K x1 ∧
    ∃ b48, (xr u x1 0) = some b48 ∧
    ∃ n48, K b48 = (3, n48) ∧
    vp_in x2 n48 ∧
    ((xi u b42 x2.toNatClampNeg) = (xi u b48 x2.toNatClampNeg) →
      ∀ v54 : Int32, v54 = x2 + (1 : Int32) →
      R v54 u) ∧
    (¬ (xi u b42 x2.toNatClampNeg) = (xi u b48 x2.toNatClampNeg) →
      Post (0 : Int32) u))
def xw9_isLike_L28 (Post : Int32 → XS → Prop) (K : XK) (x0 : Nat) (x1 : Nat) : Nat → Int32 → XS → Prop
  | 0 => fun _ _ => False
  | n + 1 => fun x2 u => xw9_isLike_L28_S Post K x0 x1 (xw9_isLike_L28 Post K x0 x1 n) x2 u
/-- RaisedPress$Rule.isLike(LRaisedPress$Rule;)Z -/
def xw9_isLike (x0 : Nat) (x1 : Nat) (K : XK) (u : XS) (Post : Int32 → XS → Prop) : Prop :=
  xRule K x0 ∧
  xabs_told x0 K u (fun r1 u1 =>
    xRule K x1 ∧
    xabs_told x1 K u1 (fun r5 u5 =>
      (¬ r1 = r5 →
        Post (0 : Int32) u5) ∧
      (r1 = r5 →
        ∃ b15, (xr u5 x0 0) = some b15 ∧
        ∃ n15, K b15 = (3, n15) ∧
        ∃ b20, (xr u5 x1 0) = some b20 ∧
        ∃ n20, K b20 = (3, n20) ∧
        ((nI n15) = (nI n20) →
          ∃ n, xw9_isLike_L28 Post K x0 x1 n (0 : Int32) u5) ∧
        (¬ (nI n15) = (nI n20) →
          Post (0 : Int32) u5))))
set_option maxHeartbeats 4000000 in
set_option maxRecDepth 100000 in
theorem txw9_isLike_L28 {X : JC} {D : va_G} {dA aK aV : Nat → Nat} {sz : Nat} {K : XK} {Post : Int32 → XS → Prop} {x0 : Nat} {x1 : Nat} (hX : JX X yX9_isLike.cls cX9_isLike 3 (Option.some Jvm.ClassFile.FieldType.boolean) 1 20 0 0) (hY : JY X D dA aK aV (AX K sz)) : ∀ (n : Nat) (x2 : Int32) (u : XS), xw9_isLike_L28 Post K x0 x1 n x2 u → JJ X (AX K sz) (jj_Q X (va_Qi (fun (r : Int32) (w : XS) => Post r w ∧ jj_z r) (jx_B D dA K) (AX K sz)) 0 0 (AX K sz)) 3 (XP D dA (AX K sz) K u) 0 0 28 [(0, .ref x0), (1, .ref x1), (2, .int x2)] [] := by
  intro n
  induction n with
  | zero =>
    intro x2 u h
    exact h.elim
  | succ n ih =>
    intro x2 u h
    have h : xw9_isLike_L28_S Post K x0 x1 (xw9_isLike_L28 Post K x0 x1 n) x2 u := h
    unfold xw9_isLike_L28_S at h
    refine jj_iload_n hX dX9_isLike_28 2 rfl 29 rfl ?_
    refine jj_aload_n hX dX9_isLike_29 0 rfl 30 rfl ?_
    obtain ⟨k30, h⟩ := h
    refine xgr_0 hX hY k30 dX9_isLike_30 q772 33 rfl ?_
    obtain ⟨b33, g33, h⟩ := h
    refine jj_st (st2 := [.ref b33, .int x2]) (by rw [va_rf_some g33]) ?_
    obtain ⟨n33, k33, h⟩ := h
    refine jx_alen hX hY.1 k33 dX9_isLike_33 34 rfl ?_
    refine jj_icmp_ge hX dX9_isLike_34 60 37 (by decide) rfl (fun c34 => ?_) (fun c34 => ?_)
    · have h := h.1 c34
      refine jj_iconst hX dX9_isLike_60 ci_1 61 rfl ?_
      exact jj_retz (post := (fun (r : Int32) (w : XS) => Post r w)) (u := u) hX dX9_isLike_61 (Nat.le_refl 0) (Nat.le_refl 0) jx_hB jj_z1 h
    · have h := h.2 c34
      refine jj_aload_n hX dX9_isLike_37 0 rfl 38 rfl ?_
      refine xgr_0 hX hY k30 dX9_isLike_38 q772 41 rfl ?_
      refine jj_iload_n hX dX9_isLike_41 2 rfl 42 rfl ?_
      obtain ⟨b42, g42, h⟩ := h
      refine jj_st (st2 := [.int x2, .ref b42]) (by rw [va_rf_some g42]) ?_
      obtain ⟨n42, k42, h⟩ := h
      obtain ⟨hi42, h⟩ := h
      refine jx_bald hX hY.1 k42 _ rfl hi42 dX9_isLike_42 43 rfl ?_
      refine jj_aload_n hX dX9_isLike_43 1 rfl 44 rfl ?_
      obtain ⟨k44, h⟩ := h
      refine xgr_0 hX hY k44 dX9_isLike_44 q772 47 rfl ?_
      refine jj_iload_n hX dX9_isLike_47 2 rfl 48 rfl ?_
      obtain ⟨b48, g48, h⟩ := h
      refine jj_st (st2 := [.int x2, .ref b48, .int (xi u b42 x2.toNatClampNeg)]) (by rw [va_rf_some g48]) ?_
      obtain ⟨n48, k48, h⟩ := h
      obtain ⟨hi48, h⟩ := h
      refine jx_bald hX hY.1 k48 _ rfl hi48 dX9_isLike_48 49 rfl ?_
      refine jj_icmp_eq hX dX9_isLike_49 54 52 (by decide) rfl (fun c49 => ?_) (fun c49 => ?_)
      · have h := h.1 c49
        obtain ⟨v54, e54⟩ : ∃ y : Int32, y = x2 + (1 : Int32) := ⟨_, rfl⟩
        have h := h v54 e54
        refine jj_iinc (v := v54) (lv2 := [(0, .ref x0), (1, .ref x1), (2, .int v54)]) hX dX9_isLike_54 2 rfl (by rw [e54, ci_1]) (Nat.le_of_ble_eq_true rfl) [1, 2, 0] rfl 57 rfl ?_
        refine jj_goto hX dX9_isLike_57 28 (by decide) ?_
        exact ih _ _ h
      · have h := h.2 c49
        refine jj_iconst hX dX9_isLike_52 ci_0 53 rfl ?_
        exact jj_retz (post := (fun (r : Int32) (w : XS) => Post r w)) (u := u) hX dX9_isLike_53 (Nat.le_refl 0) (Nat.le_refl 0) jx_hB jj_z0 h
set_option maxHeartbeats 4000000 in
set_option maxRecDepth 100000 in
theorem mxw9_isLike (l : Launch) (hfl : l.stackTraces = false) (D : va_G) (dA aK aV : Nat → Nat) (x0 : Nat) (x1 : Nat) (K : XK) (u : XS) (Post : Int32 → XS → Prop) (h : xw9_isLike x0 x1 K u Post) (sz : Nat) : Met l yX9_isLike (ws_ yX9_isLike cX9_isLike 3 (Option.some Jvm.ClassFile.FieldType.boolean)) (jx_rm 1 20 0 0) (jx_Pc D dA aK aV K u sz [.ref x0, .ref x1]) (va_Qi (fun (r : Int32) (w : XS) => Post r w ∧ jj_z r) (jx_B D dA K) (AX K sz)) 0 0 (AX K sz) := by
  refine jx_start hfl [.ref x0, .ref x1] [(0, .ref x0), (1, .ref x1)] (by decide) (Nat.le_of_ble_eq_true rfl) rfl (fun X hX hY hin => ?_)
  unfold xw9_isLike at h
  refine jj_aload_n hX dX9_isLike_0 0 rfl 1 rfl ?_
  obtain ⟨k1, h⟩ := h
  refine kxabs_told hX hY k1 q849 (Nat.le_of_ble_eq_true rfl) (Nat.le_of_ble_eq_true rfl) (Nat.zero_le _) (Nat.zero_le _) (Nat.le_of_ble_eq_true rfl) dX9_isLike_1 4 rfl h (fun r1 u1 h => ?_)
  refine jj_aload_n hX dX9_isLike_4 1 rfl 5 rfl ?_
  obtain ⟨k5, h⟩ := h
  refine kxabs_told hX hY k5 q849 (Nat.le_of_ble_eq_true rfl) (Nat.le_of_ble_eq_true rfl) (Nat.zero_le _) (Nat.zero_le _) (Nat.le_of_ble_eq_true rfl) dX9_isLike_5 8 rfl h (fun r5 u5 h => ?_)
  refine jj_icmp_ne hX dX9_isLike_8 24 11 (by decide) rfl (fun c8 => ?_) (fun c8 => ?_)
  · have h := h.1 c8
    refine jj_iconst hX dX9_isLike_24 ci_0 25 rfl ?_
    exact jj_retz (post := (fun (r : Int32) (w : XS) => Post r w)) (u := u5) hX dX9_isLike_25 (Nat.le_refl 0) (Nat.le_refl 0) jx_hB jj_z0 h
  · have h := h.2 c8
    refine jj_aload_n hX dX9_isLike_11 0 rfl 12 rfl ?_
    refine xgr_0 hX hY k1 dX9_isLike_12 q772 15 rfl ?_
    obtain ⟨b15, g15, h⟩ := h
    refine jj_st (st2 := [.ref b15]) (by rw [va_rf_some g15]) ?_
    obtain ⟨n15, k15, h⟩ := h
    refine jx_alen hX hY.1 k15 dX9_isLike_15 16 rfl ?_
    refine jj_aload_n hX dX9_isLike_16 1 rfl 17 rfl ?_
    refine xgr_0 hX hY k5 dX9_isLike_17 q772 20 rfl ?_
    obtain ⟨b20, g20, h⟩ := h
    refine jj_st (st2 := [.ref b20, .int (nI n15)]) (by rw [va_rf_some g20]) ?_
    obtain ⟨n20, k20, h⟩ := h
    refine jx_alen hX hY.1 k20 dX9_isLike_20 21 rfl ?_
    refine jj_icmp_eq hX dX9_isLike_21 26 24 (by decide) rfl (fun c21 => ?_) (fun c21 => ?_)
    · have h := h.1 c21
      refine jj_iconst hX dX9_isLike_26 ci_0 27 rfl ?_
      refine jj_istore_n (lv2 := [(0, .ref x0), (1, .ref x1), (2, .int (0 : Int32))]) hX dX9_isLike_27 (Nat.le_of_ble_eq_true rfl) [1, 2, 0] rfl 28 rfl ?_
      obtain ⟨n9, h⟩ := h
      exact txw9_isLike_L28 hX hY n9 _ _ h
    · have h := h.2 c21
      refine jj_iconst hX dX9_isLike_24 ci_0 25 rfl ?_
      exact jj_retz (post := (fun (r : Int32) (w : XS) => Post r w)) (u := u5) hX dX9_isLike_25 (Nat.le_refl 0) (Nat.le_refl 0) jx_hB jj_z0 h
theorem hd_xw9_isLike : yX9_isLike.cls ≠ "java/lang/invoke/MethodHandle" ∧ yX9_isLike.cls ≠ "java/lang/invoke/VarHandle" ∧ (parseMethodDescriptor yX9_isLike.desc).map (fun d => d.parameters.length) = some 1 := by decide +kernel
theorem kxw9_isLike {X : JC} {A : Nat → Prop} {Q : State → Prop} {nL k n pc : Nat} {lv : List (Nat × Value)} {st : List Value} {own : String} {cc : ByteArray} {ret : Option FieldType} {F LL mc ms ix : Nat} {D : va_G} {dA aK aV : Nat → Nat} {K : XK} {u : XS} {x0 : Nat} {x1 : Nat} {Post : Int32 → XS → Prop} (hX : JX X own cc nL ret F LL mc ms) (hY : JY X D dA aK aV A) (hr : xRule K x0) (hlk : (Cond.methodLink own ix yX9_isLike) ∈ lw_all) (hF : 1 + 1 ≤ F) (hL : 8 + (3 + 11) + 20 ≤ LL) (hk : k ≤ mc) (hk2 : n ≤ ms) (hw : (st.map fun v => v.category).sum ≤ 8) (d : decode cc pc = .ok (.invokevirtual ix, 3)) (q : Nat) (hq : pc + 3 = q) (h : xw9_isLike x0 x1 K u  Post) (kk : ∀ (r : Int32) (u2 : XS), jj_z r → Post r u2 → JJ X A Q nL (XP D dA A K u2) k n q lv (.int r :: st)) : JJ X A Q nL (XP D dA A K u) k n pc lv (.ref x1 :: .ref x0 :: st) := by
  obtain ⟨c, c1, c2, h1a⟩ := hr
  rcases (show c = 10 ∨ c = 11 ∨ c = 12 ∨ c = 13 ∨ c = 14 by omega) with rfl | rfl | rfl | rfl | rfl
  · exact jx_callUz (na := 1) (As := [.ref x1]) (C := RX10) hX hY jf10 h1a (fun sz => mxw9_isLike (jj_l X) hY.2.2.2.2 D dA aK aV x0 x1 K u  Post h sz) (va_cwU 1 hX.2.2.2.2.1 (lw_U hlk q842 q845 q841 q140 q848) rfl rfl rfl rfl hd_xw9_isLike ⟨by rw [hX.2.2.2.2.2.2.2.1]; exact hF, by rw [hX.2.2.2.2.2.2.2.2.1]; exact hL⟩) rfl rfl hw hk hk2 d q hq kk
  · exact jx_callUz (na := 1) (As := [.ref x1]) (C := RX11) hX hY jf11 h1a (fun sz => mxw9_isLike (jj_l X) hY.2.2.2.2 D dA aK aV x0 x1 K u  Post h sz) (va_cwU 1 hX.2.2.2.2.1 (lw_U hlk q842 q847 q841 q140 q848) rfl rfl rfl rfl hd_xw9_isLike ⟨by rw [hX.2.2.2.2.2.2.2.1]; exact hF, by rw [hX.2.2.2.2.2.2.2.2.1]; exact hL⟩) rfl rfl hw hk hk2 d q hq kk
  · exact jx_callUz (na := 1) (As := [.ref x1]) (C := RX12) hX hY jf12 h1a (fun sz => mxw9_isLike (jj_l X) hY.2.2.2.2 D dA aK aV x0 x1 K u  Post h sz) (va_cwU 1 hX.2.2.2.2.1 (lw_U hlk q842 q846 q841 q140 q848) rfl rfl rfl rfl hd_xw9_isLike ⟨by rw [hX.2.2.2.2.2.2.2.1]; exact hF, by rw [hX.2.2.2.2.2.2.2.2.1]; exact hL⟩) rfl rfl hw hk hk2 d q hq kk
  · exact jx_callUz (na := 1) (As := [.ref x1]) (C := RX13) hX hY jf13 h1a (fun sz => mxw9_isLike (jj_l X) hY.2.2.2.2 D dA aK aV x0 x1 K u  Post h sz) (va_cwU 1 hX.2.2.2.2.1 (lw_U hlk q842 q843 q841 q140 q848) rfl rfl rfl rfl hd_xw9_isLike ⟨by rw [hX.2.2.2.2.2.2.2.1]; exact hF, by rw [hX.2.2.2.2.2.2.2.2.1]; exact hL⟩) rfl rfl hw hk hk2 d q hq kk
  · exact jx_callUz (na := 1) (As := [.ref x1]) (C := RX14) hX hY jf14 h1a (fun sz => mxw9_isLike (jj_l X) hY.2.2.2.2 D dA aK aV x0 x1 K u  Post h sz) (va_cwU 1 hX.2.2.2.2.1 (lw_U hlk q842 q844 q841 q140 q848) rfl rfl rfl rfl hd_xw9_isLike ⟨by rw [hX.2.2.2.2.2.2.2.1]; exact hF, by rw [hX.2.2.2.2.2.2.2.2.1]; exact hL⟩) rfl rfl hw hk hk2 d q hq kk
