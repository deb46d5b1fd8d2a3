set_option linter.unusedVariables false
theorem kc_13200 : (13200 : Int32).toNatClampNeg = 13200 := by decide +kernel
theorem vi_1_13200 : vp_in (13200 : Int32) 19800 := by
  unfold vp_in
  decide +kernel
def mw_inWords_B115 (K14 : Int32 → Int32 → MS → Prop) (Post : Int32 → MS → Prop) (x1 : Nat) (x2 : Int32) (x4 : Int32) (x5 : Int32) (u : MS) : Prop :=
  (x5 = 0 →
    ∀ v122 : Int32, v122 = x2 + (1 : Int32) →
    ∀ v129 : Int32, v129 = (x4 + (1 : Int32)) →
    K14 v122 v129 u) ∧
  (¬ x5 = 0 →
    Post x2 u)
def mw_inWords_L68_S (K14 : Int32 → Int32 → MS → Prop) (Post : Int32 → MS → Prop) (x1 : Nat) (x2 : Int32) (x3 : Int32) (x4 : Int32) (R : Int32 → Int32 → MS → Prop) (x5 : Int32) (x6 : Int32) (u : MS) : Prop :=
  (x4 ≤ x6 →
    mw_inWords_B115 K14 Post x1 x2 x4 x5 u) ∧
  (¬ x4 ≤ x6 →
    (x5 = 0 →
      mw_inWords_B115 K14 Post x1 x2 x4 x5 u) ∧
    (¬ x5 = 0 →
      x1 < 12 ∧
      vp_in x6 (xe_len.getD x1 0) ∧
      mw_byteAt (((jm_i u 0 12) + x6) - x3) u (fun r96 u96 =>
        (¬ (xe_c x1 x6.toNatClampNeg) = r96 →
          ∀ v109 : Int32, v109 = x6 + (1 : Int32) →
          R (0 : Int32) v109 u96) ∧
        ((xe_c x1 x6.toNatClampNeg) = r96 →
          ∀ v109 : Int32, v109 = x6 + (1 : Int32) →
          R (1 : Int32) v109 u96))))
def mw_inWords_L68 (K14 : Int32 → Int32 → MS → Prop) (Post : Int32 → MS → Prop) (x1 : Nat) (x2 : Int32) (x3 : Int32) (x4 : Int32) : Nat → Int32 → Int32 → MS → Prop
  | 0 => fun _ _ _ => False
  | n + 1 => fun x5 x6 u => mw_inWords_L68_S K14 Post x1 x2 x3 x4 (mw_inWords_L68 K14 Post x1 x2 x3 x4 n) x5 x6 u
def mw_inWords_L25_S (K14 : Int32 → Int32 → MS → Prop) (Post : Int32 → MS → Prop) (x1 : Nat) (x2 : Int32) (x3 : Int32) (R : Int32 → MS → Prop) (x4 : Int32) (u : MS) : Prop :=
  x1 < 12 ∧
  vp_in x4 (xe_len.getD x1 0) ∧
  ((xe_c x1 x4.toNatClampNeg) = (32 : Int32) →
    (¬ (x4 - x3) = ((jm_i u 0 13) - (jm_i u 0 12)) →
      ∃ n, mw_inWords_L68 K14 Post x1 x2 x3 x4 n (0 : Int32) x3 u) ∧
    ((x4 - x3) = ((jm_i u 0 13) - (jm_i u 0 12)) →
      ∃ n, mw_inWords_L68 K14 Post x1 x2 x3 x4 n (1 : Int32) x3 u)) ∧
  (¬ (xe_c x1 x4.toNatClampNeg) = (32 : Int32) →
    ∀ v36 : Int32, v36 = x4 + (1 : Int32) →
    R v36 u)
def mw_inWords_L25 (K14 : Int32 → Int32 → MS → Prop) (Post : Int32 → MS → Prop) (x1 : Nat) (x2 : Int32) (x3 : Int32) : Nat → Int32 → MS → Prop
  | 0 => fun _ _ => False
  | n + 1 => fun x4 u => mw_inWords_L25_S K14 Post x1 x2 x3 (mw_inWords_L25 K14 Post x1 x2 x3 n) x4 u
def mw_inWords_L14_S (Post : Int32 → MS → Prop) (x1 : Nat) (R : Int32 → Int32 → MS → Prop) (x2 : Int32) (x3 : Int32) (u : MS) : Prop :=
  x1 < 12 ∧
  ((nI (xe_len.getD x1 0)) ≤ x3 →
    Post (-1 : Int32) u) ∧
  (¬ (nI (xe_len.getD x1 0)) ≤ x3 →
    ∃ n, mw_inWords_L25 R Post x1 x2 x3 n x3 u)
def mw_inWords_L14 (Post : Int32 → MS → Prop) (x1 : Nat) : Nat → Int32 → Int32 → MS → Prop
  | 0 => fun _ _ _ => False
  | n + 1 => fun x2 x3 u => mw_inWords_L14_S Post x1 (mw_inWords_L14 Post x1 n) x2 x3 u
/-- RaisedPressModel.inWords(Ljava/lang/String;)I -/
def mw_inWords (x1 : Nat) (u : MS) (Post : Int32 → MS → Prop) : Prop :=
  ((jm_i u 0 11) = (2 : Int32) →
    ∃ n, mw_inWords_L14 Post x1 n (0 : Int32) (1 : Int32) u) ∧
  (¬ (jm_i u 0 11) = (2 : Int32) →
    Post (-1 : Int32) u)
set_option maxHeartbeats 4000000 in
set_option maxRecDepth 100000 in
theorem tmw_inWords_B115 {X : JC} {D : va_G} {dA ad : Nat → Nat} {aK aV : Nat → Nat} {K14 : Int32 → Int32 → MS → Prop} {Post : Int32 → MS → Prop} {x1 : Nat} {x2 : Int32} {x4 : Int32} {x5 : Int32} {u : MS} (hX : JX X yX7_inWords.cls cX7_inWords 7 (Option.some Jvm.ClassFile.FieldType.int) 4 85 0 0) (hK : KM D dA (jj_s X)) (hD : MD ad) (hE : XE aK aV (AM ad) (jj_s X) (jj_s X).heap) (hK14 : ∀ (y2 : Int32) (y3 : Int32) (u : MS), K14 y2 y3 u → JJ X (AM ad) (jj_Q X (va_Qi Post (jm_B D dA ad) (AM ad)) 0 0 (AM ad)) 7 (MW D dA ad u) 0 0 14 [(0, .ref (ad 0)), (1, .ref (aK x1)), (2, .int y2), (3, .int y3)] []) (h : mw_inWords_B115 K14 Post x1 x2 x4 x5  u) : JJ X (AM ad) (jj_Q X (va_Qi Post (jm_B D dA ad) (AM ad)) 0 0 (AM ad)) 7 (MW D dA ad u) 0 0 115 [(0, .ref (ad 0)), (1, .ref (aK x1)), (2, .int x2), (4, .int x4), (5, .int x5)] [] := by
  unfold mw_inWords_B115 at h
  refine jj_iload hX dX7_inWords_115 4 rfl 117 rfl ?_
  refine jj_if_eq hX dX7_inWords_117 122 120 (by decide) rfl (fun c117 => ?_) (fun c117 => ?_)
  · have h := h.1 c117
    obtain ⟨v122, e122⟩ : ∃ y : Int32, y = x2 + (1 : Int32) := ⟨_, rfl⟩
    have h := h v122 e122
    refine jj_iinc (v := v122) (lv2 := [(0, .ref (ad 0)), (1, .ref (aK x1)), (2, .int v122), (4, .int x4), (5, .int x5)]) hX dX7_inWords_122 2 rfl (by rw [e122, ci_1]) (Nat.le_of_ble_eq_true rfl) [1, 2, 0, 3, 4] rfl 125 rfl ?_
    refine jj_iload hX dX7_inWords_125 3 rfl 127 rfl ?_
    refine jj_iconst hX dX7_inWords_127 ci_1 128 rfl ?_
    refine jj_iadd hX dX7_inWords_128 129 rfl ?_
    refine jj_topi (fun v129 e129 => ?_)
    have h := h v129 e129
    refine jj_istore_n (lv2 := [(0, .ref (ad 0)), (1, .ref (aK x1)), (2, .int v122), (3, .int v129)]) hX dX7_inWords_129 (Nat.le_of_ble_eq_true rfl) [1, 2, 3, 0] rfl 130 rfl ?_
    refine jj_goto hX dX7_inWords_130 14 (by decide) ?_
    exact hK14 _ _ _ h
  · have h := h.2 c117
    refine jj_iload_n hX dX7_inWords_120 2 rfl 121 rfl ?_
    exact jj_reti (post := Post) (u := u) hX dX7_inWords_121 (Nat.le_refl 0) (Nat.le_refl 0) jm_hB h
set_option maxHeartbeats 4000000 in
set_option maxRecDepth 100000 in
theorem tmw_inWords_L68 {X : JC} {D : va_G} {dA ad : Nat → Nat} {aK aV : Nat → Nat} {K14 : Int32 → Int32 → MS → Prop} {Post : Int32 → MS → Prop} {x1 : Nat} {x2 : Int32} {x3 : Int32} {x4 : Int32} (hX : JX X yX7_inWords.cls cX7_inWords 7 (Option.some Jvm.ClassFile.FieldType.int) 4 85 0 0) (hK : KM D dA (jj_s X)) (hD : MD ad) (hE : XE aK aV (AM ad) (jj_s X) (jj_s X).heap) (hK14 : ∀ (y2 : Int32) (y3 : Int32) (u : MS), K14 y2 y3 u → JJ X (AM ad) (jj_Q X (va_Qi Post (jm_B D dA ad) (AM ad)) 0 0 (AM ad)) 7 (MW D dA ad u) 0 0 14 [(0, .ref (ad 0)), (1, .ref (aK x1)), (2, .int y2), (3, .int y3)] []) : ∀ (n : Nat) (x5 : Int32) (x6 : Int32) (u : MS), mw_inWords_L68 K14 Post x1 x2 x3 x4 n x5 x6 u → JJ X (AM ad) (jj_Q X (va_Qi Post (jm_B D dA ad) (AM ad)) 0 0 (AM ad)) 7 (MW D dA ad u) 0 0 68 [(0, .ref (ad 0)), (1, .ref (aK x1)), (2, .int x2), (3, .int x3), (4, .int x4), (5, .int x5), (6, .int x6)] [] := by
  intro n
  induction n with
  | zero =>
    intro x5 x6 u h
    exact h.elim
  | succ n ih =>
    intro x5 x6 u h
    have h : mw_inWords_L68_S K14 Post x1 x2 x3 x4 (mw_inWords_L68 K14 Post x1 x2 x3 x4 n) x5 x6 u := h
    unfold mw_inWords_L68_S at h
    refine jj_iload hX dX7_inWords_68 6 rfl 70 rfl ?_
    refine jj_iload hX dX7_inWords_70 4 rfl 72 rfl ?_
    refine jj_icmp_ge hX dX7_inWords_72 115 75 (by decide) rfl (fun c72 => ?_) (fun c72 => ?_)
    · have h := h.1 c72
      refine jj_sub (lv2 := [(0, .ref (ad 0)), (1, .ref (aK x1)), (2, .int x2), (4, .int x4), (5, .int x5)]) [0, 1, 2, 4, 5] rfl ?_
      exact tmw_inWords_B115 hX hK hD hE hK14 h
    · have h := h.2 c72
      refine jj_iload hX dX7_inWords_75 5 rfl 77 rfl ?_
      refine jj_if_eq hX dX7_inWords_77 115 80 (by decide) rfl (fun c77 => ?_) (fun c77 => ?_)
      · have h := h.1 c77
        refine jj_sub (lv2 := [(0, .ref (ad 0)), (1, .ref (aK x1)), (2, .int x2), (4, .int x4), (5, .int x5)]) [0, 1, 2, 4, 5] rfl ?_
        exact tmw_inWords_B115 hX hK hD hE hK14 h
      · have h := h.2 c77
        refine jj_aload_n hX dX7_inWords_80 1 rfl 81 rfl ?_
        refine jj_iload hX dX7_inWords_81 6 rfl 83 rfl ?_
        obtain ⟨hi83, h⟩ := h
        obtain ⟨hj83, h⟩ := h
        refine kjk_charAt hX hE MW.keeps hi83 hj83 q1716 (Nat.le_of_ble_eq_true rfl) (Nat.le_of_ble_eq_true rfl) (Nat.zero_le _) (Nat.zero_le _) (Nat.le_of_ble_eq_true rfl) dX7_inWords_83 86 rfl ?_
        refine jj_aload_n hX dX7_inWords_86 0 rfl 87 rfl ?_
        refine jt_12 hX hK dX7_inWords_87 0 rfl dX7_inWords_88 q1496 91 rfl rfl ?_
        refine jj_iload hX dX7_inWords_91 6 rfl 93 rfl ?_
        refine jj_iadd hX dX7_inWords_93 94 rfl ?_
        refine jj_iload_n hX dX7_inWords_94 3 rfl 95 rfl ?_
        refine jj_isub hX dX7_inWords_95 96 rfl ?_
        refine kmw_byteAt hX hK hD q1690 (Nat.le_of_ble_eq_true rfl) (Nat.le_of_ble_eq_true rfl) (Nat.zero_le _) (Nat.zero_le _) (Nat.le_of_ble_eq_true rfl) dX7_inWords_96 99 rfl h (fun r96 u96 h => ?_)
        refine jj_icmp_ne hX dX7_inWords_99 106 102 (by decide) rfl (fun c99 => ?_) (fun c99 => ?_)
        · have h := h.1 c99
          refine jj_iconst hX dX7_inWords_106 ci_0 107 rfl ?_
          refine jj_istore (lv2 := [(0, .ref (ad 0)), (1, .ref (aK x1)), (2, .int x2), (3, .int x3), (4, .int x4), (5, .int (0 : Int32)), (6, .int x6)]) hX dX7_inWords_107 (Nat.le_of_ble_eq_true rfl) [1, 2, 3, 4, 5, 0, 6] rfl 109 rfl ?_
          obtain ⟨v109, e109⟩ : ∃ y : Int32, y = x6 + (1 : Int32) := ⟨_, rfl⟩
          have h := h v109 e109
          refine jj_iinc (v := v109) (lv2 := [(0, .ref (ad 0)), (1, .ref (aK x1)), (2, .int x2), (3, .int x3), (4, .int x4), (5, .int (0 : Int32)), (6, .int v109)]) hX dX7_inWords_109 6 rfl (by rw [e109, ci_1]) (Nat.le_of_ble_eq_true rfl) [1, 2, 3, 4, 5, 6, 0] rfl 112 rfl ?_
          refine jj_goto hX dX7_inWords_112 68 (by decide) ?_
          exact ih _ _ _ h
        · have h := h.2 c99
          refine jj_iconst hX dX7_inWords_102 ci_1 103 rfl ?_
          refine jj_goto hX dX7_inWords_103 107 (by decide) ?_
          refine jj_istore (lv2 := [(0, .ref (ad 0)), (1, .ref (aK x1)), (2, .int x2), (3, .int x3), (4, .int x4), (5, .int (1 : Int32)), (6, .int x6)]) hX dX7_inWords_107 (Nat.le_of_ble_eq_true rfl) [1, 2, 3, 4, 5, 0, 6] rfl 109 rfl ?_
          obtain ⟨v109, e109⟩ : ∃ y : Int32, y = x6 + (1 : Int32) := ⟨_, rfl⟩
          have h := h v109 e109
          refine jj_iinc (v := v109) (lv2 := [(0, .ref (ad 0)), (1, .ref (aK x1)), (2, .int x2), (3, .int x3), (4, .int x4), (5, .int (1 : Int32)), (6, .int v109)]) hX dX7_inWords_109 6 rfl (by rw [e109, ci_1]) (Nat.le_of_ble_eq_true rfl) [1, 2, 3, 4, 5, 6, 0] rfl 112 rfl ?_
          refine jj_goto hX dX7_inWords_112 68 (by decide) ?_
          exact ih _ _ _ h
set_option maxHeartbeats 4000000 in
set_option maxRecDepth 100000 in
theorem tmw_inWords_L25 {X : JC} {D : va_G} {dA ad : Nat → Nat} {aK aV : Nat → Nat} {K14 : Int32 → Int32 → MS → Prop} {Post : Int32 → MS → Prop} {x1 : Nat} {x2 : Int32} {x3 : Int32} (hX : JX X yX7_inWords.cls cX7_inWords 7 (Option.some Jvm.ClassFile.FieldType.int) 4 85 0 0) (hK : KM D dA (jj_s X)) (hD : MD ad) (hE : XE aK aV (AM ad) (jj_s X) (jj_s X).heap) (hK14 : ∀ (y2 : Int32) (y3 : Int32) (u : MS), K14 y2 y3 u → JJ X (AM ad) (jj_Q X (va_Qi Post (jm_B D dA ad) (AM ad)) 0 0 (AM ad)) 7 (MW D dA ad u) 0 0 14 [(0, .ref (ad 0)), (1, .ref (aK x1)), (2, .int y2), (3, .int y3)] []) : ∀ (n : Nat) (x4 : Int32) (u : MS), mw_inWords_L25 K14 Post x1 x2 x3 n x4 u → JJ X (AM ad) (jj_Q X (va_Qi Post (jm_B D dA ad) (AM ad)) 0 0 (AM ad)) 7 (MW D dA ad u) 0 0 25 [(0, .ref (ad 0)), (1, .ref (aK x1)), (2, .int x2), (3, .int x3), (4, .int x4)] [] := by
  intro n
  induction n with
  | zero =>
    intro x4 u h
    exact h.elim
  | succ n ih =>
    intro x4 u h
    have h : mw_inWords_L25_S K14 Post x1 x2 x3 (mw_inWords_L25 K14 Post x1 x2 x3 n) x4 u := h
    unfold mw_inWords_L25_S at h
    refine jj_aload_n hX dX7_inWords_25 1 rfl 26 rfl ?_
    refine jj_iload hX dX7_inWords_26 4 rfl 28 rfl ?_
    obtain ⟨hi28, h⟩ := h
    obtain ⟨hj28, h⟩ := h
    refine kjk_charAt hX hE MW.keeps hi28 hj28 q1716 (Nat.le_of_ble_eq_true rfl) (Nat.le_of_ble_eq_true rfl) (Nat.zero_le _) (Nat.zero_le _) (Nat.le_of_ble_eq_true rfl) dX7_inWords_28 31 rfl ?_
    refine jj_bipush hX dX7_inWords_31 cb_32 33 rfl ?_
    refine jj_icmp_eq hX dX7_inWords_33 42 36 (by decide) rfl (fun c33 => ?_) (fun c33 => ?_)
    · have h := h.1 c33
      refine jj_iload hX dX7_inWords_42 4 rfl 44 rfl ?_
      refine jj_iload_n hX dX7_inWords_44 3 rfl 45 rfl ?_
      refine jj_isub hX dX7_inWords_45 46 rfl ?_
      refine jt_13 hX hK dX7_inWords_46 0 rfl dX7_inWords_47 q1497 50 rfl rfl ?_
      refine jt_12 hX hK dX7_inWords_50 0 rfl dX7_inWords_51 q1496 54 rfl rfl ?_
      refine jj_isub hX dX7_inWords_54 55 rfl ?_
      refine jj_icmp_ne hX dX7_inWords_55 62 58 (by decide) rfl (fun c55 => ?_) (fun c55 => ?_)
      · have h := h.1 c55
        refine jj_iconst hX dX7_inWords_62 ci_0 63 rfl ?_
        refine jj_istore (lv2 := [(0, .ref (ad 0)), (1, .ref (aK x1)), (2, .int x2), (3, .int x3), (4, .int x4), (5, .int (0 : Int32))]) hX dX7_inWords_63 (Nat.le_of_ble_eq_true rfl) [1, 2, 3, 4, 5, 0] rfl 65 rfl ?_
        refine jj_iload_n hX dX7_inWords_65 3 rfl 66 rfl ?_
        refine jj_istore (lv2 := [(0, .ref (ad 0)), (1, .ref (aK x1)), (2, .int x2), (3, .int x3), (4, .int x4), (5, .int (0 : Int32)), (6, .int x3)]) hX dX7_inWords_66 (Nat.le_of_ble_eq_true rfl) [1, 2, 3, 4, 5, 6, 0] rfl 68 rfl ?_
        obtain ⟨n9, h⟩ := h
        exact tmw_inWords_L68 hX hK hD hE hK14 n9 _ _ _ h
      · have h := h.2 c55
        refine jj_iconst hX dX7_inWords_58 ci_1 59 rfl ?_
        refine jj_goto hX dX7_inWords_59 63 (by decide) ?_
        refine jj_istore (lv2 := [(0, .ref (ad 0)), (1, .ref (aK x1)), (2, .int x2), (3, .int x3), (4, .int x4), (5, .int (1 : Int32))]) hX dX7_inWords_63 (Nat.le_of_ble_eq_true rfl) [1, 2, 3, 4, 5, 0] rfl 65 rfl ?_
        refine jj_iload_n hX dX7_inWords_65 3 rfl 66 rfl ?_
        refine jj_istore (lv2 := [(0, .ref (ad 0)), (1, .ref (aK x1)), (2, .int x2), (3, .int x3), (4, .int x4), (5, .int (1 : Int32)), (6, .int x3)]) hX dX7_inWords_66 (Nat.le_of_ble_eq_true rfl) [1, 2, 3, 4, 5, 6, 0] rfl 68 rfl ?_
        obtain ⟨n9, h⟩ := h
        exact tmw_inWords_L68 hX hK hD hE hK14 n9 _ _ _ h
    · have h := h.2 c33
      obtain ⟨v36, e36⟩ : ∃ y : Int32, y = x4 + (1 : Int32) := ⟨_, rfl⟩
      have h := h v36 e36
      refine jj_iinc (v := v36) (lv2 := [(0, .ref (ad 0)), (1, .ref (aK x1)), (2, .int x2), (3, .int x3), (4, .int v36)]) hX dX7_inWords_36 4 rfl (by rw [e36, ci_1]) (Nat.le_of_ble_eq_true rfl) [1, 2, 3, 4, 0] rfl 39 rfl ?_
      refine jj_goto hX dX7_inWords_39 25 (by decide) ?_
      exact ih _ _ h
set_option maxHeartbeats 4000000 in
set_option maxRecDepth 100000 in
theorem tmw_inWords_L14 {X : JC} {D : va_G} {dA ad : Nat → Nat} {aK aV : Nat → Nat} {Post : Int32 → MS → Prop} {x1 : Nat} (hX : JX X yX7_inWords.cls cX7_inWords 7 (Option.some Jvm.ClassFile.FieldType.int) 4 85 0 0) (hK : KM D dA (jj_s X)) (hD : MD ad) (hE : XE aK aV (AM ad) (jj_s X) (jj_s X).heap) : ∀ (n : Nat) (x2 : Int32) (x3 : Int32) (u : MS), mw_inWords_L14 Post x1 n x2 x3 u → JJ X (AM ad) (jj_Q X (va_Qi Post (jm_B D dA ad) (AM ad)) 0 0 (AM ad)) 7 (MW D dA ad u) 0 0 14 [(0, .ref (ad 0)), (1, .ref (aK x1)), (2, .int x2), (3, .int x3)] [] := by
  intro n
  induction n with
  | zero =>
    intro x2 x3 u h
    exact h.elim
  | succ n ih =>
    intro x2 x3 u h
    have h : mw_inWords_L14_S Post x1 (mw_inWords_L14 Post x1 n) x2 x3 u := h
    unfold mw_inWords_L14_S at h
    refine jj_iload_n hX dX7_inWords_14 3 rfl 15 rfl ?_
    refine jj_aload_n hX dX7_inWords_15 1 rfl 16 rfl ?_
    obtain ⟨hi16, h⟩ := h
    refine kjk_length hX hE MW.keeps hi16 q1715 (Nat.le_of_ble_eq_true rfl) (Nat.le_of_ble_eq_true rfl) (Nat.zero_le _) (Nat.zero_le _) (Nat.le_of_ble_eq_true rfl) dX7_inWords_16 19 rfl ?_
    refine jj_icmp_ge hX dX7_inWords_19 133 22 (by decide) rfl (fun c19 => ?_) (fun c19 => ?_)
    · have h := h.1 c19
      refine jj_iconst hX dX7_inWords_133 ci_m1 134 rfl ?_
      exact jj_reti (post := Post) (u := u) hX dX7_inWords_134 (Nat.le_refl 0) (Nat.le_refl 0) jm_hB h
    · have h := h.2 c19
      refine jj_iload_n hX dX7_inWords_22 3 rfl 23 rfl ?_
      refine jj_istore (lv2 := [(0, .ref (ad 0)), (1, .ref (aK x1)), (2, .int x2), (3, .int x3), (4, .int x3)]) hX dX7_inWords_23 (Nat.le_of_ble_eq_true rfl) [1, 2, 3, 4, 0] rfl 25 rfl ?_
      obtain ⟨n9, h⟩ := h
      exact tmw_inWords_L25 hX hK hD hE ih n9 _ _ h
set_option maxHeartbeats 4000000 in
set_option maxRecDepth 100000 in
theorem mmw_inWords (l : Launch) (D : va_G) (dA ad aK aV : Nat → Nat) (hD : MD ad) (x1 : Nat) (u : MS) (Post : Int32 → MS → Prop) (h : mw_inWords x1 u Post) : Met l yX7_inWords (ws_ yX7_inWords cX7_inWords 7 (Option.some Jvm.ClassFile.FieldType.int)) (jm_rm 4 85) (jn_Pc D dA ad aK aV u [.ref (aK x1)]) (va_Qi Post (jm_B D dA ad) (AM ad)) 0 0 (AM ad) := by
  refine jn_start [.ref (aK x1)] [(0, .ref (ad 0)), (1, .ref (aK x1))] (by decide) (Nat.le_of_ble_eq_true rfl) rfl (fun X hX hK hE => ?_)
  unfold mw_inWords at h
  refine jt_11 hX hK dX7_inWords_0 0 rfl dX7_inWords_1 q1495 4 rfl rfl ?_
  refine jj_iconst hX dX7_inWords_4 ci_2 5 rfl ?_
  refine jj_icmp_eq hX dX7_inWords_5 10 8 (by decide) rfl (fun c5 => ?_) (fun c5 => ?_)
  · have h := h.1 c5
    refine jj_iconst hX dX7_inWords_10 ci_0 11 rfl ?_
    refine jj_istore_n (lv2 := [(0, .ref (ad 0)), (1, .ref (aK x1)), (2, .int (0 : Int32))]) hX dX7_inWords_11 (Nat.le_of_ble_eq_true rfl) [1, 2, 0] rfl 12 rfl ?_
    refine jj_iconst hX dX7_inWords_12 ci_1 13 rfl ?_
    refine jj_istore_n (lv2 := [(0, .ref (ad 0)), (1, .ref (aK x1)), (2, .int (0 : Int32)), (3, .int (1 : Int32))]) hX dX7_inWords_13 (Nat.le_of_ble_eq_true rfl) [1, 2, 3, 0] rfl 14 rfl ?_
    obtain ⟨n9, h⟩ := h
    exact tmw_inWords_L14 hX hK hD hE n9 _ _ _ h
  · have h := h.2 c5
    refine jj_iconst hX dX7_inWords_8 ci_m1 9 rfl ?_
    exact jj_reti (post := Post) (u := u) hX dX7_inWords_9 (Nat.le_refl 0) (Nat.le_refl 0) jm_hB h
theorem hd_mw_inWords : yX7_inWords.cls = RX7 ∧ yX7_inWords.cls ≠ "java/lang/invoke/MethodHandle" ∧ yX7_inWords.cls ≠ "java/lang/invoke/VarHandle" ∧ (parseMethodDescriptor yX7_inWords.desc).map (fun d => d.parameters.length) = some 1 := by decide +kernel
theorem kmw_inWords {X : JC} {Q : State → Prop} {nL k n pc : Nat} {lv : List (Nat × Value)} {st : List Value} {own : String} {cc : ByteArray} {ret : Option FieldType} {F LL mc ms ix : Nat} {D : va_G} {dA ad aK aV : Nat → Nat} {x1 : Nat} {u : MS} {Post : Int32 → MS → Prop} (hX : JX X own cc nL ret F LL mc ms) (hK : KM D dA (jj_s X)) (hD : MD ad) (hE : XE aK aV (AM ad) (jj_s X) (jj_s X).heap) (hlk : (Cond.methodLink own ix yX7_inWords) ∈ lw_all) (hF : 4 + 1 ≤ F) (hL : 8 + (7 + 11) + 85 ≤ LL) (hk : k ≤ mc) (hk2 : n ≤ ms) (hw : (st.map fun v => v.category).sum ≤ 8) (d : decode cc pc = .ok (.invokevirtual ix, 3)) (q : Nat) (hq : pc + 3 = q) (h : mw_inWords x1 u Post) (kk : ∀ (r : Int32) (u2 : MS), Post r u2 → JJ X (AM ad) Q nL (MW D dA ad u2) k n q lv (.int r :: st)) : JJ X (AM ad) Q nL (MW D dA ad u) k n pc lv (.ref (aK x1) :: .ref (ad 0) :: st) :=
  jn_calli (na := 1) (As := [.ref (aK x1)]) hX hK hE (mmw_inWords (jj_l X) D dA ad aK aV hD x1 u Post h) hlk q1713 qs67 q129 q1714 hd_mw_inWords rfl rfl hw hF hL hk hk2 d q hq kk
/-- RaisedPressModel.wantWord(Ljava/lang/String;I)Z -/
def mw_wantWord (x1 : Nat) (x2 : Int32) (u : MS) (Post : Int32 → MS → Prop) : Prop :=
  mw_inWords x1 u (fun r2 u2 =>
    (r2 = x2 →
      mw_ahead u2 (fun u16 =>
        Post (1 : Int32) u16)) ∧
    (¬ r2 = x2 →
      mw_fails (2 : Int32) u2 (fun r11 u11 =>
        Post r11 u11)))
set_option maxHeartbeats 4000000 in
set_option maxRecDepth 100000 in
theorem mmw_wantWord (l : Launch) (D : va_G) (dA ad aK aV : Nat → Nat) (hD : MD ad) (x1 : Nat) (x2 : Int32) (u : MS) (Post : Int32 → MS → Prop) (h : mw_wantWord x1 x2 u Post) : Met l yX7_wantWord (ws_ yX7_wantWord cX7_wantWord 3 (Option.some Jvm.ClassFile.FieldType.boolean)) (jm_rm 5 111) (jn_Pc D dA ad aK aV u [.ref (aK x1), .int x2]) (va_Qi (fun r u => Post r u ∧ jj_z r) (jm_B D dA ad) (AM ad)) 0 0 (AM ad) := by
  refine jn_start [.ref (aK x1), .int x2] [(0, .ref (ad 0)), (1, .ref (aK x1)), (2, .int x2)] (by decide) (Nat.le_of_ble_eq_true rfl) rfl (fun X hX hK hE => ?_)
  unfold mw_wantWord at h
  refine jj_aload_n hX dX7_wantWord_0 0 rfl 1 rfl ?_
  refine jj_aload_n hX dX7_wantWord_1 1 rfl 2 rfl ?_
  refine kmw_inWords hX hK hD hE q1711 (Nat.le_of_ble_eq_true rfl) (Nat.le_of_ble_eq_true rfl) (Nat.zero_le _) (Nat.zero_le _) (Nat.le_of_ble_eq_true rfl) dX7_wantWord_2 5 rfl h (fun r2 u2 h => ?_)
  refine jj_iload_n hX dX7_wantWord_5 2 rfl 6 rfl ?_
  refine jj_icmp_eq hX dX7_wantWord_6 15 9 (by decide) rfl (fun c6 => ?_) (fun c6 => ?_)
  · have h := h.1 c6
    refine jj_aload_n hX dX7_wantWord_15 0 rfl 16 rfl ?_
    refine kmw_ahead hX hK hD q1686 (Nat.le_of_ble_eq_true rfl) (Nat.le_of_ble_eq_true rfl) (Nat.zero_le _) (Nat.zero_le _) (Nat.le_of_ble_eq_true rfl) dX7_wantWord_16 19 rfl h (fun u16 h => ?_)
    refine jj_iconst hX dX7_wantWord_19 ci_1 20 rfl ?_
    exact jj_retz (post := Post) (u := u16) hX dX7_wantWord_20 (Nat.le_refl 0) (Nat.le_refl 0) jm_hB jj_z1 h
  · have h := h.2 c6
    refine jj_aload_n hX dX7_wantWord_9 0 rfl 10 rfl ?_
    refine jj_iconst hX dX7_wantWord_10 ci_2 11 rfl ?_
    refine kmw_fails hX hK hD q1724 (Nat.le_of_ble_eq_true rfl) (Nat.le_of_ble_eq_true rfl) (Nat.zero_le _) (Nat.zero_le _) (Nat.le_of_ble_eq_true rfl) dX7_wantWord_11 14 rfl h (fun r11 u11 hb11 h => ?_)
    exact jj_retz (post := Post) (u := u11) hX dX7_wantWord_14 (Nat.le_refl 0) (Nat.le_refl 0) jm_hB hb11 h
theorem hd_mw_wantWord : yX7_wantWord.cls = RX7 ∧ yX7_wantWord.cls ≠ "java/lang/invoke/MethodHandle" ∧ yX7_wantWord.cls ≠ "java/lang/invoke/VarHandle" ∧ (parseMethodDescriptor yX7_wantWord.desc).map (fun d => d.parameters.length) = some 2 := by decide +kernel
theorem kmw_wantWord {X : JC} {Q : State → Prop} {nL k n pc : Nat} {lv : List (Nat × Value)} {st : List Value} {own : String} {cc : ByteArray} {ret : Option FieldType} {F LL mc ms ix : Nat} {D : va_G} {dA ad aK aV : Nat → Nat} {x1 : Nat} {x2 : Int32} {u : MS} {Post : Int32 → MS → Prop} (hX : JX X own cc nL ret F LL mc ms) (hK : KM D dA (jj_s X)) (hD : MD ad) (hE : XE aK aV (AM ad) (jj_s X) (jj_s X).heap) (hlk : (Cond.methodLink own ix yX7_wantWord) ∈ lw_all) (hF : 5 + 1 ≤ F) (hL : 8 + (3 + 11) + 111 ≤ LL) (hk : k ≤ mc) (hk2 : n ≤ ms) (hw : (st.map fun v => v.category).sum ≤ 8) (d : decode cc pc = .ok (.invokevirtual ix, 3)) (q : Nat) (hq : pc + 3 = q) (h : mw_wantWord x1 x2 u Post) (kk : ∀ (r : Int32) (u2 : MS), jj_z r → Post r u2 → JJ X (AM ad) Q nL (MW D dA ad u2) k n q lv (.int r :: st)) : JJ X (AM ad) Q nL (MW D dA ad u) k n pc lv (.int x2 :: .ref (aK x1) :: .ref (ad 0) :: st) :=
  jn_callz (na := 2) (As := [.ref (aK x1), .int x2]) hX hK hE (mmw_wantWord (jj_l X) D dA ad aK aV hD x1 x2 u Post h) hlk q1730 qs70 q129 q1731 hd_mw_wantWord rfl rfl hw hF hL hk hk2 d q hq kk
def mw_aRule_L338_S (Post : Int32 → MS → Prop) (x1 : Int32) (x2 : Int32) (R : Int32 → MS → Prop) (x4 : Int32) (u : MS) : Prop :=
  (x1 ≤ x4 →
    ∀ u383 : MS, u383 = jm_s u 1 13200 ((jm_i u 1 13200) + (1 : Int32)) →
    mw_wantSign (59 : Int32) u383 (fun r387 u387 =>
      Post r387 u387)) ∧
  (¬ x1 ≤ x4 →
    mw_ruleAt (13200 : Int32) x4 (fun r350 =>
      mw_likeRule r350 x2 u (fun r354 u354 =>
        (r354 = 0 →
          ∀ v366 : Int32, v366 = x4 + (1 : Int32) →
          R v366 u354) ∧
        (¬ r354 = 0 →
          mw_fails (3 : Int32) u354 (fun r362 u362 =>
            Post r362 u362)))))
def mw_aRule_L338 (Post : Int32 → MS → Prop) (x1 : Int32) (x2 : Int32) : Nat → Int32 → MS → Prop
  | 0 => fun _ _ => False
  | n + 1 => fun x4 u => mw_aRule_L338_S Post x1 x2 (mw_aRule_L338 Post x1 x2 n) x4 u
def mw_aRule_B320 (Post : Int32 → MS → Prop) (x1 : Int32) (x2 : Int32) (u : MS) : Prop :=
  mw_isSign (59 : Int32) u (fun r323 u323 =>
    (¬ r323 = 0 →
      ∃ n, mw_aRule_L338 Post x1 x2 n (0 : Int32) u323) ∧
    (r323 = 0 →
      mw_fails (2 : Int32) u323 (fun r331 u331 =>
        Post r331 u331)))
def mw_aRule_B303 (Post : Int32 → MS → Prop) (x1 : Int32) (x2 : Int32) (s0 : Int32) (s1 : Int32) (u : MS) : Prop :=
  vp_in s1 19800 ∧
  ∀ u303 : MS, u303 = jm_s u 1 s1.toNatClampNeg s0 →
  vp_in (x2 + (11 : Int32)) 19800 ∧
  ((jm_i u303 1 (x2 + (11 : Int32)).toNatClampNeg) ≤ 0 →
    mw_aRule_B320 Post x1 x2 u303) ∧
  (¬ (jm_i u303 1 (x2 + (11 : Int32)).toNatClampNeg) ≤ 0 →
    mw_ahead u303 (fun u317 =>
      mw_aRule_B320 Post x1 x2 u317))
def mw_aRule_L171_S (Post : Int32 → MS → Prop) (x1 : Int32) (x2 : Int32) (R : MS → Prop) (u : MS) : Prop :=
  (¬ (jm_i u 0 11) = (3 : Int32) →
    mw_inWords 0 u (fun r269 u269 =>
      (r269 < (7 : Int32) →
        mw_aRule_B303 Post x1 x2 (0 : Int32) (x2 + (11 : Int32)) u269) ∧
      (¬ r269 < (7 : Int32) →
        ((10 : Int32) < r269 →
          mw_aRule_B303 Post x1 x2 (0 : Int32) (x2 + (11 : Int32)) u269) ∧
        (¬ (10 : Int32) < r269 →
          mw_aRule_B303 Post x1 x2 ((r269 - (7 : Int32)) + (1 : Int32)) (x2 + (11 : Int32)) u269)))) ∧
  ((jm_i u 0 11) = (3 : Int32) →
    ((jm_i u 0 14) < (1 : Int32) →
      mw_fails (4 : Int32) u (fun r198 u198 =>
        Post r198 u198)) ∧
    (¬ (jm_i u 0 14) < (1 : Int32) →
      ((jm_i u 0 14) ≤ (63 : Int32) →
        vp_in (x2 + (7 : Int32)) 19800 ∧
        (¬ (jm_i u 1 (x2 + (7 : Int32)).toNatClampNeg) = (3 : Int32) →
          vp_in (x2 + (7 : Int32)) 19800 ∧
          vp_in (((x2 + (7 : Int32)) + (1 : Int32)) + (jm_i u 1 (x2 + (7 : Int32)).toNatClampNeg)) 19800 ∧
          ∀ u245 : MS, u245 = jm_s u 1 (((x2 + (7 : Int32)) + (1 : Int32)) + (jm_i u 1 (x2 + (7 : Int32)).toNatClampNeg)).toNatClampNeg (jm_i u 0 14) →
          ∀ v254 : Int32, v254 = (x2 + (7 : Int32)) →
          vp_in v254 19800 ∧
          vp_in v254 19800 ∧
          ∀ u258 : MS, u258 = jm_s u245 1 v254.toNatClampNeg ((jm_i u245 1 v254.toNatClampNeg) + (1 : Int32)) →
          mw_ahead u258 (fun u260 =>
            R u260)) ∧
        ((jm_i u 1 (x2 + (7 : Int32)).toNatClampNeg) = (3 : Int32) →
          mw_fails (5 : Int32) u (fun r217 u217 =>
            Post r217 u217))) ∧
      (¬ (jm_i u 0 14) ≤ (63 : Int32) →
        mw_fails (4 : Int32) u (fun r198 u198 =>
          Post r198 u198))))
def mw_aRule_L171 (Post : Int32 → MS → Prop) (x1 : Int32) (x2 : Int32) : Nat → MS → Prop
  | 0 => fun _ => False
  | n + 1 => fun u => mw_aRule_L171_S Post x1 x2 (mw_aRule_L171 Post x1 x2 n) u
def mw_aRule_L79_S (Post : Int32 → MS → Prop) (x1 : Int32) (x2 : Int32) (R : Int32 → MS → Prop) (x3 : Int32) (u : MS) : Prop :=
  ((6 : Int32) ≤ x3 →
    mw_ahead u (fun u131 =>
      mw_wantWord 0 (6 : Int32) u131 (fun r139 u139 =>
        (¬ r139 = 0 →
          ((jm_i u139 0 11) = (3 : Int32) →
            vp_in (x2 + (7 : Int32)) 19800 ∧
            ∀ u170 : MS, u170 = jm_s u139 1 (x2 + (7 : Int32)).toNatClampNeg (0 : Int32) →
            ∃ n, mw_aRule_L171 Post x1 x2 n u170) ∧
          (¬ (jm_i u139 0 11) = (3 : Int32) →
            mw_fails (2 : Int32) u139 (fun r157 u157 =>
              Post r157 u157))) ∧
        (r139 = 0 →
          Post (0 : Int32) u139)))) ∧
  (¬ (6 : Int32) ≤ x3 →
    vp_in x2 19800 ∧
    ((jm_i u 1 x2.toNatClampNeg) ≤ x3 →
      vp_in ((x2 + (1 : Int32)) + x3) 19800 ∧
      ∀ u123 : MS, u123 = jm_s u 1 ((x2 + (1 : Int32)) + x3).toNatClampNeg (0 : Int32) →
      ∀ v124 : Int32, v124 = x3 + (1 : Int32) →
      R v124 u123) ∧
    (¬ (jm_i u 1 x2.toNatClampNeg) ≤ x3 →
      mw_byteAt ((jm_i u 0 12) + x3) u (fun r111 u111 =>
        vp_in ((x2 + (1 : Int32)) + x3) 19800 ∧
        ∀ u123 : MS, u123 = jm_s u111 1 ((x2 + (1 : Int32)) + x3).toNatClampNeg ((r111 - (97 : Int32)) + (1 : Int32)) →
        ∀ v124 : Int32, v124 = x3 + (1 : Int32) →
        R v124 u123)))
def mw_aRule_L79 (Post : Int32 → MS → Prop) (x1 : Int32) (x2 : Int32) : Nat → Int32 → MS → Prop
  | 0 => fun _ _ => False
  | n + 1 => fun x3 u => mw_aRule_L79_S Post x1 x2 (mw_aRule_L79 Post x1 x2 n) x3 u
/-- RaisedPressModel.aRule()Z -/
def mw_aRule (u : MS) (Post : Int32 → MS → Prop) : Prop :=
  ∀ v8 : Int32, v8 = (jm_i u 1 13200) →
  mw_ruleAt (13200 : Int32) v8 (fun r13 =>
    (¬ v8 = (24 : Int32) →
      mw_ahead u (fun u31 =>
        (¬ (jm_i u31 0 11) = (2 : Int32) →
          mw_fails (2 : Int32) u31 (fun r58 u58 =>
            Post r58 u58)) ∧
        ((jm_i u31 0 11) = (2 : Int32) →
          (((jm_i u31 0 13) - (jm_i u31 0 12)) ≤ (6 : Int32) →
            vp_in r13 19800 ∧
            ∀ u76 : MS, u76 = jm_s u31 1 r13.toNatClampNeg ((jm_i u31 0 13) - (jm_i u31 0 12)) →
            ∃ n, mw_aRule_L79 Post v8 r13 n (0 : Int32) u76) ∧
          (¬ ((jm_i u31 0 13) - (jm_i u31 0 12)) ≤ (6 : Int32) →
            mw_fails (2 : Int32) u31 (fun r58 u58 =>
              Post r58 u58))))) ∧
    (v8 = (24 : Int32) →
      mw_fails (6 : Int32) u (fun r26 u26 =>
        Post r26 u26)))
set_option maxHeartbeats 4000000 in
set_option maxRecDepth 100000 in
theorem tmw_aRule_L338 {X : JC} {D : va_G} {dA ad : Nat → Nat} {aK aV : Nat → Nat} {Post : Int32 → MS → Prop} {x1 : Int32} {x2 : Int32} (hX : JX X yX7_aRule.cls cX7_aRule 5 (Option.some Jvm.ClassFile.FieldType.boolean) 6 133 0 0) (hK : KM D dA (jj_s X)) (hD : MD ad) (hE : XE aK aV (AM ad) (jj_s X) (jj_s X).heap) : ∀ (n : Nat) (x4 : Int32) (u : MS), mw_aRule_L338 Post x1 x2 n x4 u → JJ X (AM ad) (jj_Q X (va_Qi (fun r u => Post r u ∧ jj_z r) (jm_B D dA ad) (AM ad)) 0 0 (AM ad)) 5 (MW D dA ad u) 0 0 338 [(0, .ref (ad 0)), (1, .int x1), (2, .int x2), (4, .int x4)] [] := by
  intro n
  induction n with
  | zero =>
    intro x4 u h
    exact h.elim
  | succ n ih =>
    intro x4 u h
    have h : mw_aRule_L338_S Post x1 x2 (mw_aRule_L338 Post x1 x2 n) x4 u := h
    unfold mw_aRule_L338_S at h
    refine jj_iload hX dX7_aRule_338 3 rfl 340 rfl ?_
    refine jj_iload_n hX dX7_aRule_340 1 rfl 341 rfl ?_
    refine jj_icmp_ge hX dX7_aRule_341 372 344 (by decide) rfl (fun c341 => ?_) (fun c341 => ?_)
    · have h := h.1 c341
      refine jt_0 hX hK dX7_aRule_372 0 rfl dX7_aRule_373 q1484 376 rfl rfl ?_
      refine jj_sipush hX dX7_aRule_376 cs_13200 379 rfl ?_
      refine jj_dup2 hX dX7_aRule_379 rfl rfl 380 rfl ?_
      refine jr_1 hX hK 13200 kc_13200 vi_1_13200 dX7_aRule_380 381 rfl ?_
      refine jj_iconst hX dX7_aRule_381 ci_1 382 rfl ?_
      refine jj_iadd hX dX7_aRule_382 383 rfl ?_
      refine jw_1 hX hK hD 13200 kc_13200 vi_1_13200 dX7_aRule_383 384 rfl (fun u383 e383 => ?_)
      have h := h u383 e383
      refine jj_aload_n hX dX7_aRule_384 0 rfl 385 rfl ?_
      refine jj_bipush hX dX7_aRule_385 cb_59 387 rfl ?_
      refine kmw_wantSign hX hK hD q1740 (Nat.le_of_ble_eq_true rfl) (Nat.le_of_ble_eq_true rfl) (Nat.zero_le _) (Nat.zero_le _) (Nat.le_of_ble_eq_true rfl) dX7_aRule_387 390 rfl h (fun r387 u387 hb387 h => ?_)
      exact jj_retz (post := Post) (u := u387) hX dX7_aRule_390 (Nat.le_refl 0) (Nat.le_refl 0) jm_hB hb387 h
    · have h := h.2 c341
      refine jj_aload_n hX dX7_aRule_344 0 rfl 345 rfl ?_
      refine jj_sipush hX dX7_aRule_345 cs_13200 348 rfl ?_
      refine jj_iload hX dX7_aRule_348 3 rfl 350 rfl ?_
      refine kmw_ruleAt hX MW.keeps q1721 (Nat.le_of_ble_eq_true rfl) (Nat.le_of_ble_eq_true rfl) (Nat.zero_le _) (Nat.zero_le _) (Nat.le_of_ble_eq_true rfl) dX7_aRule_350 353 rfl h (fun r350 h => ?_)
      refine jj_iload_n hX dX7_aRule_353 2 rfl 354 rfl ?_
      refine kmw_likeRule hX hK hD q1736 (Nat.le_of_ble_eq_true rfl) (Nat.le_of_ble_eq_true rfl) (Nat.zero_le _) (Nat.zero_le _) (Nat.le_of_ble_eq_true rfl) dX7_aRule_354 357 rfl h (fun r354 u354 hb354 h => ?_)
      refine jj_if_eq hX dX7_aRule_357 366 360 (by decide) rfl (fun c357 => ?_) (fun c357 => ?_)
      · have h := h.1 c357
        obtain ⟨v366, e366⟩ : ∃ y : Int32, y = x4 + (1 : Int32) := ⟨_, rfl⟩
        have h := h v366 e366
        refine jj_iinc (v := v366) (lv2 := [(0, .ref (ad 0)), (1, .int x1), (2, .int x2), (4, .int v366)]) hX dX7_aRule_366 3 rfl (by rw [e366, ci_1]) (Nat.le_of_ble_eq_true rfl) [1, 2, 3, 0] rfl 369 rfl ?_
        refine jj_goto hX dX7_aRule_369 338 (by decide) ?_
        exact ih _ _ h
      · have h := h.2 c357
        refine jj_aload_n hX dX7_aRule_360 0 rfl 361 rfl ?_
        refine jj_iconst hX dX7_aRule_361 ci_3 362 rfl ?_
        refine kmw_fails hX hK hD q1724 (Nat.le_of_ble_eq_true rfl) (Nat.le_of_ble_eq_true rfl) (Nat.zero_le _) (Nat.zero_le _) (Nat.le_of_ble_eq_true rfl) dX7_aRule_362 365 rfl h (fun r362 u362 hb362 h => ?_)
        exact jj_retz (post := Post) (u := u362) hX dX7_aRule_365 (Nat.le_refl 0) (Nat.le_refl 0) jm_hB hb362 h
set_option maxHeartbeats 4000000 in
set_option maxRecDepth 100000 in
theorem tmw_aRule_B320 {X : JC} {D : va_G} {dA ad : Nat → Nat} {aK aV : Nat → Nat} {Post : Int32 → MS → Prop} {x1 : Int32} {x2 : Int32} {u : MS} (hX : JX X yX7_aRule.cls cX7_aRule 5 (Option.some Jvm.ClassFile.FieldType.boolean) 6 133 0 0) (hK : KM D dA (jj_s X)) (hD : MD ad) (hE : XE aK aV (AM ad) (jj_s X) (jj_s X).heap) (h : mw_aRule_B320 Post x1 x2  u) : JJ X (AM ad) (jj_Q X (va_Qi (fun r u => Post r u ∧ jj_z r) (jm_B D dA ad) (AM ad)) 0 0 (AM ad)) 5 (MW D dA ad u) 0 0 320 [(0, .ref (ad 0)), (1, .int x1), (2, .int x2)] [] := by
  unfold mw_aRule_B320 at h
  refine jj_aload_n hX dX7_aRule_320 0 rfl 321 rfl ?_
  refine jj_bipush hX dX7_aRule_321 cb_59 323 rfl ?_
  refine kmw_isSign hX hK hD q1732 (Nat.le_of_ble_eq_true rfl) (Nat.le_of_ble_eq_true rfl) (Nat.zero_le _) (Nat.zero_le _) (Nat.le_of_ble_eq_true rfl) dX7_aRule_323 326 rfl h (fun r323 u323 hb323 h => ?_)
  refine jj_if_ne hX dX7_aRule_326 335 329 (by decide) rfl (fun c326 => ?_) (fun c326 => ?_)
  · have h := h.1 c326
    refine jj_iconst hX dX7_aRule_335 ci_0 336 rfl ?_
    refine jj_istore (lv2 := [(0, .ref (ad 0)), (1, .int x1), (2, .int x2), (4, .int (0 : Int32))]) hX dX7_aRule_336 (Nat.le_of_ble_eq_true rfl) [1, 2, 3, 0] rfl 338 rfl ?_
    obtain ⟨n9, h⟩ := h
    exact tmw_aRule_L338 hX hK hD hE n9 _ _ h
  · have h := h.2 c326
    refine jj_aload_n hX dX7_aRule_329 0 rfl 330 rfl ?_
    refine jj_iconst hX dX7_aRule_330 ci_2 331 rfl ?_
    refine kmw_fails hX hK hD q1724 (Nat.le_of_ble_eq_true rfl) (Nat.le_of_ble_eq_true rfl) (Nat.zero_le _) (Nat.zero_le _) (Nat.le_of_ble_eq_true rfl) dX7_aRule_331 334 rfl h (fun r331 u331 hb331 h => ?_)
    exact jj_retz (post := Post) (u := u331) hX dX7_aRule_334 (Nat.le_refl 0) (Nat.le_refl 0) jm_hB hb331 h
set_option maxHeartbeats 4000000 in
set_option maxRecDepth 100000 in
theorem tmw_aRule_B303 {X : JC} {D : va_G} {dA ad : Nat → Nat} {aK aV : Nat → Nat} {Post : Int32 → MS → Prop} {x1 : Int32} {x2 : Int32} {s0 : Int32} {s1 : Int32} {u : MS} (hX : JX X yX7_aRule.cls cX7_aRule 5 (Option.some Jvm.ClassFile.FieldType.boolean) 6 133 0 0) (hK : KM D dA (jj_s X)) (hD : MD ad) (hE : XE aK aV (AM ad) (jj_s X) (jj_s X).heap) (h : mw_aRule_B303 Post x1 x2 s0 s1 u) : JJ X (AM ad) (jj_Q X (va_Qi (fun r u => Post r u ∧ jj_z r) (jm_B D dA ad) (AM ad)) 0 0 (AM ad)) 5 (MW D dA ad u) 0 0 303 [(0, .ref (ad 0)), (1, .int x1), (2, .int x2)] [.int s0, .int s1, .ref (ad 1)] := by
  unfold mw_aRule_B303 at h
  obtain ⟨hi303, h⟩ := h
  refine jw_1 hX hK hD _ rfl hi303 dX7_aRule_303 304 rfl (fun u303 e303 => ?_)
  have h := h u303 e303
  refine jt_0 hX hK dX7_aRule_304 0 rfl dX7_aRule_305 q1484 308 rfl rfl ?_
  refine jj_iload_n hX dX7_aRule_308 2 rfl 309 rfl ?_
  refine jj_bipush hX dX7_aRule_309 cb_11 311 rfl ?_
  refine jj_iadd hX dX7_aRule_311 312 rfl ?_
  obtain ⟨hi312, h⟩ := h
  refine jr_1 hX hK _ rfl hi312 dX7_aRule_312 313 rfl ?_
  refine jj_if_le hX dX7_aRule_313 320 316 (by decide) rfl (fun c313 => ?_) (fun c313 => ?_)
  · have h := h.1 c313
    exact tmw_aRule_B320 hX hK hD hE h
  · have h := h.2 c313
    refine jj_aload_n hX dX7_aRule_316 0 rfl 317 rfl ?_
    refine kmw_ahead hX hK hD q1686 (Nat.le_of_ble_eq_true rfl) (Nat.le_of_ble_eq_true rfl) (Nat.zero_le _) (Nat.zero_le _) (Nat.le_of_ble_eq_true rfl) dX7_aRule_317 320 rfl h (fun u317 h => ?_)
    exact tmw_aRule_B320 hX hK hD hE h
set_option maxHeartbeats 4000000 in
set_option maxRecDepth 100000 in
theorem tmw_aRule_L171 {X : JC} {D : va_G} {dA ad : Nat → Nat} {aK aV : Nat → Nat} {Post : Int32 → MS → Prop} {x1 : Int32} {x2 : Int32} (hX : JX X yX7_aRule.cls cX7_aRule 5 (Option.some Jvm.ClassFile.FieldType.boolean) 6 133 0 0) (hK : KM D dA (jj_s X)) (hD : MD ad) (hE : XE aK aV (AM ad) (jj_s X) (jj_s X).heap) : ∀ (n : Nat) (u : MS), mw_aRule_L171 Post x1 x2 n u → JJ X (AM ad) (jj_Q X (va_Qi (fun r u => Post r u ∧ jj_z r) (jm_B D dA ad) (AM ad)) 0 0 (AM ad)) 5 (MW D dA ad u) 0 0 171 [(0, .ref (ad 0)), (1, .int x1), (2, .int x2)] [] := by
  intro n
  induction n with
  | zero =>
    intro u h
    exact h.elim
  | succ n ih =>
    intro u h
    have h : mw_aRule_L171_S Post x1 x2 (mw_aRule_L171 Post x1 x2 n) u := h
    unfold mw_aRule_L171_S at h
    refine jt_11 hX hK dX7_aRule_171 0 rfl dX7_aRule_172 q1495 175 rfl rfl ?_
    refine jj_iconst hX dX7_aRule_175 ci_3 176 rfl ?_
    refine jj_icmp_ne hX dX7_aRule_176 266 179 (by decide) rfl (fun c176 => ?_) (fun c176 => ?_)
    · have h := h.1 c176
      refine jj_aload_n hX dX7_aRule_266 0 rfl 267 rfl ?_
      refine jk_ldc (i := 0) hX hE (by decide) rfl dX7_aRule_267 269 rfl ?_
      refine kmw_inWords hX hK hD hE q1711 (Nat.le_of_ble_eq_true rfl) (Nat.le_of_ble_eq_true rfl) (Nat.zero_le _) (Nat.zero_le _) (Nat.le_of_ble_eq_true rfl) dX7_aRule_269 272 rfl h (fun r269 u269 h => ?_)
      refine jj_istore_n (lv2 := [(0, .ref (ad 0)), (1, .int x1), (2, .int x2), (3, .int r269)]) hX dX7_aRule_272 (Nat.le_of_ble_eq_true rfl) [1, 2, 3, 0] rfl 273 rfl ?_
      refine jt_0 hX hK dX7_aRule_273 0 rfl dX7_aRule_274 q1484 277 rfl rfl ?_
      refine jj_iload_n hX dX7_aRule_277 2 rfl 278 rfl ?_
      refine jj_bipush hX dX7_aRule_278 cb_11 280 rfl ?_
      refine jj_iadd hX dX7_aRule_280 281 rfl ?_
      refine jj_iload_n hX dX7_aRule_281 3 rfl 282 rfl ?_
      refine jj_bipush hX dX7_aRule_282 cb_7 284 rfl ?_
      refine jj_icmp_lt hX dX7_aRule_284 302 287 (by decide) rfl (fun c284 => ?_) (fun c284 => ?_)
      · have h := h.1 c284
        refine jj_iconst hX dX7_aRule_302 ci_0 303 rfl ?_
        refine jj_sub (lv2 := [(0, .ref (ad 0)), (1, .int x1), (2, .int x2)]) [0, 1, 2] rfl ?_
        exact tmw_aRule_B303 hX hK hD hE h
      · have h := h.2 c284
        refine jj_iload_n hX dX7_aRule_287 3 rfl 288 rfl ?_
        refine jj_bipush hX dX7_aRule_288 cb_10 290 rfl ?_
        refine jj_icmp_gt hX dX7_aRule_290 302 293 (by decide) rfl (fun c290 => ?_) (fun c290 => ?_)
        · have h := h.1 c290
          refine jj_iconst hX dX7_aRule_302 ci_0 303 rfl ?_
          refine jj_sub (lv2 := [(0, .ref (ad 0)), (1, .int x1), (2, .int x2)]) [0, 1, 2] rfl ?_
          exact tmw_aRule_B303 hX hK hD hE h
        · have h := h.2 c290
          refine jj_iload_n hX dX7_aRule_293 3 rfl 294 rfl ?_
          refine jj_bipush hX dX7_aRule_294 cb_7 296 rfl ?_
          refine jj_isub hX dX7_aRule_296 297 rfl ?_
          refine jj_iconst hX dX7_aRule_297 ci_1 298 rfl ?_
          refine jj_iadd hX dX7_aRule_298 299 rfl ?_
          refine jj_goto hX dX7_aRule_299 303 (by decide) ?_
          refine jj_sub (lv2 := [(0, .ref (ad 0)), (1, .int x1), (2, .int x2)]) [0, 1, 2] rfl ?_
          exact tmw_aRule_B303 hX hK hD hE h
    · have h := h.2 c176
      refine jt_14 hX hK dX7_aRule_179 0 rfl dX7_aRule_180 q1498 183 rfl rfl ?_
      refine jj_iconst hX dX7_aRule_183 ci_1 184 rfl ?_
      refine jj_icmp_lt hX dX7_aRule_184 196 187 (by decide) rfl (fun c184 => ?_) (fun c184 => ?_)
      · have h := h.1 c184
        refine jj_aload_n hX dX7_aRule_196 0 rfl 197 rfl ?_
        refine jj_iconst hX dX7_aRule_197 ci_4 198 rfl ?_
        refine kmw_fails hX hK hD q1724 (Nat.le_of_ble_eq_true rfl) (Nat.le_of_ble_eq_true rfl) (Nat.zero_le _) (Nat.zero_le _) (Nat.le_of_ble_eq_true rfl) dX7_aRule_198 201 rfl h (fun r198 u198 hb198 h => ?_)
        exact jj_retz (post := Post) (u := u198) hX dX7_aRule_201 (Nat.le_refl 0) (Nat.le_refl 0) jm_hB hb198 h
      · have h := h.2 c184
        refine jt_14 hX hK dX7_aRule_187 0 rfl dX7_aRule_188 q1498 191 rfl rfl ?_
        refine jj_bipush hX dX7_aRule_191 cb_63 193 rfl ?_
        refine jj_icmp_le hX dX7_aRule_193 202 196 (by decide) rfl (fun c193 => ?_) (fun c193 => ?_)
        · have h := h.1 c193
          refine jt_0 hX hK dX7_aRule_202 0 rfl dX7_aRule_203 q1484 206 rfl rfl ?_
          refine jj_iload_n hX dX7_aRule_206 2 rfl 207 rfl ?_
          refine jj_bipush hX dX7_aRule_207 cb_7 209 rfl ?_
          refine jj_iadd hX dX7_aRule_209 210 rfl ?_
          obtain ⟨hi210, h⟩ := h
          refine jr_1 hX hK _ rfl hi210 dX7_aRule_210 211 rfl ?_
          refine jj_iconst hX dX7_aRule_211 ci_3 212 rfl ?_
          refine jj_icmp_ne hX dX7_aRule_212 221 215 (by decide) rfl (fun c212 => ?_) (fun c212 => ?_)
          · have h := h.1 c212
            refine jt_0 hX hK dX7_aRule_221 0 rfl dX7_aRule_222 q1484 225 rfl rfl ?_
            refine jj_iload_n hX dX7_aRule_225 2 rfl 226 rfl ?_
            refine jj_bipush hX dX7_aRule_226 cb_7 228 rfl ?_
            refine jj_iadd hX dX7_aRule_228 229 rfl ?_
            refine jj_iconst hX dX7_aRule_229 ci_1 230 rfl ?_
            refine jj_iadd hX dX7_aRule_230 231 rfl ?_
            refine jt_0 hX hK dX7_aRule_231 0 rfl dX7_aRule_232 q1484 235 rfl rfl ?_
            refine jj_iload_n hX dX7_aRule_235 2 rfl 236 rfl ?_
            refine jj_bipush hX dX7_aRule_236 cb_7 238 rfl ?_
            refine jj_iadd hX dX7_aRule_238 239 rfl ?_
            obtain ⟨hi239, h⟩ := h
            refine jr_1 hX hK _ rfl hi239 dX7_aRule_239 240 rfl ?_
            refine jj_iadd hX dX7_aRule_240 241 rfl ?_
            refine jt_14 hX hK dX7_aRule_241 0 rfl dX7_aRule_242 q1498 245 rfl rfl ?_
            obtain ⟨hi245, h⟩ := h
            refine jw_1 hX hK hD _ rfl hi245 dX7_aRule_245 246 rfl (fun u245 e245 => ?_)
            have h := h u245 e245
            refine jt_0 hX hK dX7_aRule_246 0 rfl dX7_aRule_247 q1484 250 rfl rfl ?_
            refine jj_iload_n hX dX7_aRule_250 2 rfl 251 rfl ?_
            refine jj_bipush hX dX7_aRule_251 cb_7 253 rfl ?_
            refine jj_iadd hX dX7_aRule_253 254 rfl ?_
            refine jj_topi (fun v254 e254 => ?_)
            have h := h v254 e254
            refine jj_dup2 hX dX7_aRule_254 rfl rfl 255 rfl ?_
            obtain ⟨hi255, h⟩ := h
            refine jr_1 hX hK _ rfl hi255 dX7_aRule_255 256 rfl ?_
            refine jj_iconst hX dX7_aRule_256 ci_1 257 rfl ?_
            refine jj_iadd hX dX7_aRule_257 258 rfl ?_
            obtain ⟨hi258, h⟩ := h
            refine jw_1 hX hK hD _ rfl hi258 dX7_aRule_258 259 rfl (fun u258 e258 => ?_)
            have h := h u258 e258
            refine jj_aload_n hX dX7_aRule_259 0 rfl 260 rfl ?_
            refine kmw_ahead hX hK hD q1686 (Nat.le_of_ble_eq_true rfl) (Nat.le_of_ble_eq_true rfl) (Nat.zero_le _) (Nat.zero_le _) (Nat.le_of_ble_eq_true rfl) dX7_aRule_260 263 rfl h (fun u260 h => ?_)
            refine jj_goto hX dX7_aRule_263 171 (by decide) ?_
            exact ih _ h
          · have h := h.2 c212
            refine jj_aload_n hX dX7_aRule_215 0 rfl 216 rfl ?_
            refine jj_iconst hX dX7_aRule_216 ci_5 217 rfl ?_
            refine kmw_fails hX hK hD q1724 (Nat.le_of_ble_eq_true rfl) (Nat.le_of_ble_eq_true rfl) (Nat.zero_le _) (Nat.zero_le _) (Nat.le_of_ble_eq_true rfl) dX7_aRule_217 220 rfl h (fun r217 u217 hb217 h => ?_)
            exact jj_retz (post := Post) (u := u217) hX dX7_aRule_220 (Nat.le_refl 0) (Nat.le_refl 0) jm_hB hb217 h
        · have h := h.2 c193
          refine jj_aload_n hX dX7_aRule_196 0 rfl 197 rfl ?_
          refine jj_iconst hX dX7_aRule_197 ci_4 198 rfl ?_
          refine kmw_fails hX hK hD q1724 (Nat.le_of_ble_eq_true rfl) (Nat.le_of_ble_eq_true rfl) (Nat.zero_le _) (Nat.zero_le _) (Nat.le_of_ble_eq_true rfl) dX7_aRule_198 201 rfl h (fun r198 u198 hb198 h => ?_)
          exact jj_retz (post := Post) (u := u198) hX dX7_aRule_201 (Nat.le_refl 0) (Nat.le_refl 0) jm_hB hb198 h
set_option maxHeartbeats 4000000 in
set_option maxRecDepth 100000 in
theorem tmw_aRule_L79 {X : JC} {D : va_G} {dA ad : Nat → Nat} {aK aV : Nat → Nat} {Post : Int32 → MS → Prop} {x1 : Int32} {x2 : Int32} (hX : JX X yX7_aRule.cls cX7_aRule 5 (Option.some Jvm.ClassFile.FieldType.boolean) 6 133 0 0) (hK : KM D dA (jj_s X)) (hD : MD ad) (hE : XE aK aV (AM ad) (jj_s X) (jj_s X).heap) : ∀ (n : Nat) (x3 : Int32) (u : MS), mw_aRule_L79 Post x1 x2 n x3 u → JJ X (AM ad) (jj_Q X (va_Qi (fun r u => Post r u ∧ jj_z r) (jm_B D dA ad) (AM ad)) 0 0 (AM ad)) 5 (MW D dA ad u) 0 0 79 [(0, .ref (ad 0)), (1, .int x1), (2, .int x2), (3, .int x3)] [] := by
  intro n
  induction n with
  | zero =>
    intro x3 u h
    exact h.elim
  | succ n ih =>
    intro x3 u h
    have h : mw_aRule_L79_S Post x1 x2 (mw_aRule_L79 Post x1 x2 n) x3 u := h
    unfold mw_aRule_L79_S at h
    refine jj_iload_n hX dX7_aRule_79 3 rfl 80 rfl ?_
    refine jj_bipush hX dX7_aRule_80 cb_6 82 rfl ?_
    refine jj_icmp_ge hX dX7_aRule_82 130 85 (by decide) rfl (fun c82 => ?_) (fun c82 => ?_)
    · have h := h.1 c82
      refine jj_aload_n hX dX7_aRule_130 0 rfl 131 rfl ?_
      refine kmw_ahead hX hK hD q1686 (Nat.le_of_ble_eq_true rfl) (Nat.le_of_ble_eq_true rfl) (Nat.zero_le _) (Nat.zero_le _) (Nat.le_of_ble_eq_true rfl) dX7_aRule_131 134 rfl h (fun u131 h => ?_)
      refine jj_aload_n hX dX7_aRule_134 0 rfl 135 rfl ?_
      refine jk_ldc (i := 0) hX hE (by decide) rfl dX7_aRule_135 137 rfl ?_
      refine jj_bipush hX dX7_aRule_137 cb_6 139 rfl ?_
      refine kmw_wantWord hX hK hD hE q1728 (Nat.le_of_ble_eq_true rfl) (Nat.le_of_ble_eq_true rfl) (Nat.zero_le _) (Nat.zero_le _) (Nat.le_of_ble_eq_true rfl) dX7_aRule_139 142 rfl h (fun r139 u139 hb139 h => ?_)
      refine jj_if_ne hX dX7_aRule_142 147 145 (by decide) rfl (fun c142 => ?_) (fun c142 => ?_)
      · have h := h.1 c142
        refine jt_11 hX hK dX7_aRule_147 0 rfl dX7_aRule_148 q1495 151 rfl rfl ?_
        refine jj_iconst hX dX7_aRule_151 ci_3 152 rfl ?_
        refine jj_icmp_eq hX dX7_aRule_152 161 155 (by decide) rfl (fun c152 => ?_) (fun c152 => ?_)
        · have h := h.1 c152
          refine jt_0 hX hK dX7_aRule_161 0 rfl dX7_aRule_162 q1484 165 rfl rfl ?_
          refine jj_iload_n hX dX7_aRule_165 2 rfl 166 rfl ?_
          refine jj_bipush hX dX7_aRule_166 cb_7 168 rfl ?_
          refine jj_iadd hX dX7_aRule_168 169 rfl ?_
          refine jj_iconst hX dX7_aRule_169 ci_0 170 rfl ?_
          obtain ⟨hi170, h⟩ := h
          refine jw_1 hX hK hD _ rfl hi170 dX7_aRule_170 171 rfl (fun u170 e170 => ?_)
          have h := h u170 e170
          obtain ⟨n9, h⟩ := h
          refine jj_sub (lv2 := [(0, .ref (ad 0)), (1, .int x1), (2, .int x2)]) [0, 1, 2] rfl ?_
          exact tmw_aRule_L171 hX hK hD hE n9 _ h
        · have h := h.2 c152
          refine jj_aload_n hX dX7_aRule_155 0 rfl 156 rfl ?_
          refine jj_iconst hX dX7_aRule_156 ci_2 157 rfl ?_
          refine kmw_fails hX hK hD q1724 (Nat.le_of_ble_eq_true rfl) (Nat.le_of_ble_eq_true rfl) (Nat.zero_le _) (Nat.zero_le _) (Nat.le_of_ble_eq_true rfl) dX7_aRule_157 160 rfl h (fun r157 u157 hb157 h => ?_)
          exact jj_retz (post := Post) (u := u157) hX dX7_aRule_160 (Nat.le_refl 0) (Nat.le_refl 0) jm_hB hb157 h
      · have h := h.2 c142
        refine jj_iconst hX dX7_aRule_145 ci_0 146 rfl ?_
        exact jj_retz (post := Post) (u := u139) hX dX7_aRule_146 (Nat.le_refl 0) (Nat.le_refl 0) jm_hB jj_z0 h
    · have h := h.2 c82
      refine jt_0 hX hK dX7_aRule_85 0 rfl dX7_aRule_86 q1484 89 rfl rfl ?_
      refine jj_iload_n hX dX7_aRule_89 2 rfl 90 rfl ?_
      refine jj_iconst hX dX7_aRule_90 ci_1 91 rfl ?_
      refine jj_iadd hX dX7_aRule_91 92 rfl ?_
      refine jj_iload_n hX dX7_aRule_92 3 rfl 93 rfl ?_
      refine jj_iadd hX dX7_aRule_93 94 rfl ?_
      refine jj_iload_n hX dX7_aRule_94 3 rfl 95 rfl ?_
      refine jt_0 hX hK dX7_aRule_95 0 rfl dX7_aRule_96 q1484 99 rfl rfl ?_
      refine jj_iload_n hX dX7_aRule_99 2 rfl 100 rfl ?_
      obtain ⟨hi100, h⟩ := h
      refine jr_1 hX hK _ rfl hi100 dX7_aRule_100 101 rfl ?_
      refine jj_icmp_ge hX dX7_aRule_101 122 104 (by decide) rfl (fun c101 => ?_) (fun c101 => ?_)
      · have h := h.1 c101
        refine jj_iconst hX dX7_aRule_122 ci_0 123 rfl ?_
        obtain ⟨hi123, h⟩ := h
        refine jw_1 hX hK hD _ rfl hi123 dX7_aRule_123 124 rfl (fun u123 e123 => ?_)
        have h := h u123 e123
        obtain ⟨v124, e124⟩ : ∃ y : Int32, y = x3 + (1 : Int32) := ⟨_, rfl⟩
        have h := h v124 e124
        refine jj_iinc (v := v124) (lv2 := [(0, .ref (ad 0)), (1, .int x1), (2, .int x2), (3, .int v124)]) hX dX7_aRule_124 3 rfl (by rw [e124, ci_1]) (Nat.le_of_ble_eq_true rfl) [1, 2, 3, 0] rfl 127 rfl ?_
        refine jj_goto hX dX7_aRule_127 79 (by decide) ?_
        exact ih _ _ h
      · have h := h.2 c101
        refine jj_aload_n hX dX7_aRule_104 0 rfl 105 rfl ?_
        refine jt_12 hX hK dX7_aRule_105 0 rfl dX7_aRule_106 q1496 109 rfl rfl ?_
        refine jj_iload_n hX dX7_aRule_109 3 rfl 110 rfl ?_
        refine jj_iadd hX dX7_aRule_110 111 rfl ?_
        refine kmw_byteAt hX hK hD q1690 (Nat.le_of_ble_eq_true rfl) (Nat.le_of_ble_eq_true rfl) (Nat.zero_le _) (Nat.zero_le _) (Nat.le_of_ble_eq_true rfl) dX7_aRule_111 114 rfl h (fun r111 u111 h => ?_)
        refine jj_bipush hX dX7_aRule_114 cb_97 116 rfl ?_
        refine jj_isub hX dX7_aRule_116 117 rfl ?_
        refine jj_iconst hX dX7_aRule_117 ci_1 118 rfl ?_
        refine jj_iadd hX dX7_aRule_118 119 rfl ?_
        refine jj_goto hX dX7_aRule_119 123 (by decide) ?_
        obtain ⟨hi123, h⟩ := h
        refine jw_1 hX hK hD _ rfl hi123 dX7_aRule_123 124 rfl (fun u123 e123 => ?_)
        have h := h u123 e123
        obtain ⟨v124, e124⟩ : ∃ y : Int32, y = x3 + (1 : Int32) := ⟨_, rfl⟩
        have h := h v124 e124
        refine jj_iinc (v := v124) (lv2 := [(0, .ref (ad 0)), (1, .int x1), (2, .int x2), (3, .int v124)]) hX dX7_aRule_124 3 rfl (by rw [e124, ci_1]) (Nat.le_of_ble_eq_true rfl) [1, 2, 3, 0] rfl 127 rfl ?_
        refine jj_goto hX dX7_aRule_127 79 (by decide) ?_
        exact ih _ _ h
set_option maxHeartbeats 4000000 in
set_option maxRecDepth 100000 in
theorem mmw_aRule (l : Launch) (D : va_G) (dA ad aK aV : Nat → Nat) (hD : MD ad) (u : MS) (Post : Int32 → MS → Prop) (h : mw_aRule  u Post) : Met l yX7_aRule (ws_ yX7_aRule cX7_aRule 5 (Option.some Jvm.ClassFile.FieldType.boolean)) (jm_rm 6 133) (jn_Pc D dA ad aK aV u []) (va_Qi (fun r u => Post r u ∧ jj_z r) (jm_B D dA ad) (AM ad)) 0 0 (AM ad) := by
  refine jn_start [] [(0, .ref (ad 0))] (by decide) (Nat.le_of_ble_eq_true rfl) rfl (fun X hX hK hE => ?_)
  unfold mw_aRule at h
  refine jt_0 hX hK dX7_aRule_0 0 rfl dX7_aRule_1 q1484 4 rfl rfl ?_
  refine jj_sipush hX dX7_aRule_4 cs_13200 7 rfl ?_
  refine jr_1 hX hK 13200 kc_13200 vi_1_13200 dX7_aRule_7 8 rfl ?_
  refine jj_topi (fun v8 e8 => ?_)
  have h := h v8 e8
  refine jj_istore_n (lv2 := [(0, .ref (ad 0)), (1, .int v8)]) hX dX7_aRule_8 (Nat.le_of_ble_eq_true rfl) [1, 0] rfl 9 rfl ?_
  refine jj_sipush hX dX7_aRule_9 cs_13200 12 rfl ?_
  refine jj_iload_n hX dX7_aRule_12 1 rfl 13 rfl ?_
  refine kmw_ruleAt hX MW.keeps q1721 (Nat.le_of_ble_eq_true rfl) (Nat.le_of_ble_eq_true rfl) (Nat.zero_le _) (Nat.zero_le _) (Nat.le_of_ble_eq_true rfl) dX7_aRule_13 16 rfl h (fun r13 h => ?_)
  refine jj_istore_n (lv2 := [(0, .ref (ad 0)), (1, .int v8), (2, .int r13)]) hX dX7_aRule_16 (Nat.le_of_ble_eq_true rfl) [1, 2, 0] rfl 17 rfl ?_
  refine jj_iload_n hX dX7_aRule_17 1 rfl 18 rfl ?_
  refine jj_bipush hX dX7_aRule_18 cb_24 20 rfl ?_
  refine jj_icmp_ne hX dX7_aRule_20 30 23 (by decide) rfl (fun c20 => ?_) (fun c20 => ?_)
  · have h := h.1 c20
    refine jj_aload_n hX dX7_aRule_30 0 rfl 31 rfl ?_
    refine kmw_ahead hX hK hD q1686 (Nat.le_of_ble_eq_true rfl) (Nat.le_of_ble_eq_true rfl) (Nat.zero_le _) (Nat.zero_le _) (Nat.le_of_ble_eq_true rfl) dX7_aRule_31 34 rfl h (fun u31 h => ?_)
    refine jt_11 hX hK dX7_aRule_34 0 rfl dX7_aRule_35 q1495 38 rfl rfl ?_
    refine jj_iconst hX dX7_aRule_38 ci_2 39 rfl ?_
    refine jj_icmp_ne hX dX7_aRule_39 56 42 (by decide) rfl (fun c39 => ?_) (fun c39 => ?_)
    · have h := h.1 c39
      refine jj_aload_n hX dX7_aRule_56 0 rfl 57 rfl ?_
      refine jj_iconst hX dX7_aRule_57 ci_2 58 rfl ?_
      refine kmw_fails hX hK hD q1724 (Nat.le_of_ble_eq_true rfl) (Nat.le_of_ble_eq_true rfl) (Nat.zero_le _) (Nat.zero_le _) (Nat.le_of_ble_eq_true rfl) dX7_aRule_58 61 rfl h (fun r58 u58 hb58 h => ?_)
      exact jj_retz (post := Post) (u := u58) hX dX7_aRule_61 (Nat.le_refl 0) (Nat.le_refl 0) jm_hB hb58 h
    · have h := h.2 c39
      refine jt_13 hX hK dX7_aRule_42 0 rfl dX7_aRule_43 q1497 46 rfl rfl ?_
      refine jt_12 hX hK dX7_aRule_46 0 rfl dX7_aRule_47 q1496 50 rfl rfl ?_
      refine jj_isub hX dX7_aRule_50 51 rfl ?_
      refine jj_bipush hX dX7_aRule_51 cb_6 53 rfl ?_
      refine jj_icmp_le hX dX7_aRule_53 62 56 (by decide) rfl (fun c53 => ?_) (fun c53 => ?_)
      · have h := h.1 c53
        refine jt_0 hX hK dX7_aRule_62 0 rfl dX7_aRule_63 q1484 66 rfl rfl ?_
        refine jj_iload_n hX dX7_aRule_66 2 rfl 67 rfl ?_
        refine jt_13 hX hK dX7_aRule_67 0 rfl dX7_aRule_68 q1497 71 rfl rfl ?_
        refine jt_12 hX hK dX7_aRule_71 0 rfl dX7_aRule_72 q1496 75 rfl rfl ?_
        refine jj_isub hX dX7_aRule_75 76 rfl ?_
        obtain ⟨hi76, h⟩ := h
        refine jw_1 hX hK hD _ rfl hi76 dX7_aRule_76 77 rfl (fun u76 e76 => ?_)
        have h := h u76 e76
        refine jj_iconst hX dX7_aRule_77 ci_0 78 rfl ?_
        refine jj_istore_n (lv2 := [(0, .ref (ad 0)), (1, .int v8), (2, .int r13), (3, .int (0 : Int32))]) hX dX7_aRule_78 (Nat.le_of_ble_eq_true rfl) [1, 2, 3, 0] rfl 79 rfl ?_
        obtain ⟨n9, h⟩ := h
        exact tmw_aRule_L79 hX hK hD hE n9 _ _ h
      · have h := h.2 c53
        refine jj_aload_n hX dX7_aRule_56 0 rfl 57 rfl ?_
        refine jj_iconst hX dX7_aRule_57 ci_2 58 rfl ?_
        refine kmw_fails hX hK hD q1724 (Nat.le_of_ble_eq_true rfl) (Nat.le_of_ble_eq_true rfl) (Nat.zero_le _) (Nat.zero_le _) (Nat.le_of_ble_eq_true rfl) dX7_aRule_58 61 rfl h (fun r58 u58 hb58 h => ?_)
        exact jj_retz (post := Post) (u := u58) hX dX7_aRule_61 (Nat.le_refl 0) (Nat.le_refl 0) jm_hB hb58 h
  · have h := h.2 c20
    refine jj_aload_n hX dX7_aRule_23 0 rfl 24 rfl ?_
    refine jj_bipush hX dX7_aRule_24 cb_6 26 rfl ?_
    refine kmw_fails hX hK hD q1724 (Nat.le_of_ble_eq_true rfl) (Nat.le_of_ble_eq_true rfl) (Nat.zero_le _) (Nat.zero_le _) (Nat.le_of_ble_eq_true rfl) dX7_aRule_26 29 rfl h (fun r26 u26 hb26 h => ?_)
    exact jj_retz (post := Post) (u := u26) hX dX7_aRule_29 (Nat.le_refl 0) (Nat.le_refl 0) jm_hB hb26 h
theorem hd_mw_aRule : yX7_aRule.cls = RX7 ∧ yX7_aRule.cls ≠ "java/lang/invoke/MethodHandle" ∧ yX7_aRule.cls ≠ "java/lang/invoke/VarHandle" ∧ (parseMethodDescriptor yX7_aRule.desc).map (fun d => d.parameters.length) = some 0 := by decide +kernel
theorem kmw_aRule {X : JC} {Q : State → Prop} {nL k n pc : Nat} {lv : List (Nat × Value)} {st : List Value} {own : String} {cc : ByteArray} {ret : Option FieldType} {F LL mc ms ix : Nat} {D : va_G} {dA ad aK aV : Nat → Nat} {u : MS} {Post : Int32 → MS → Prop} (hX : JX X own cc nL ret F LL mc ms) (hK : KM D dA (jj_s X)) (hD : MD ad) (hE : XE aK aV (AM ad) (jj_s X) (jj_s X).heap) (hlk : (Cond.methodLink own ix yX7_aRule) ∈ lw_all) (hF : 6 + 1 ≤ F) (hL : 8 + (5 + 11) + 133 ≤ LL) (hk : k ≤ mc) (hk2 : n ≤ ms) (hw : (st.map fun v => v.category).sum ≤ 8) (d : decode cc pc = .ok (.invokevirtual ix, 3)) (q : Nat) (hq : pc + 3 = q) (h : mw_aRule  u Post) (kk : ∀ (r : Int32) (u2 : MS), jj_z r → Post r u2 → JJ X (AM ad) Q nL (MW D dA ad u2) k n q lv (.int r :: st)) : JJ X (AM ad) Q nL (MW D dA ad u) k n pc lv (.ref (ad 0) :: st) :=
  jn_callz (na := 0) (As := []) hX hK hE (mmw_aRule (jj_l X) D dA ad aK aV hD  u Post h) hlk q1719 qs68 q129 q1720 hd_mw_aRule rfl rfl hw hF hL hk hk2 d q hq kk
def mw_pressPart_B123 (Post : Int32 → MS → Prop) (u : MS) : Prop :=
  mw_wantSign (59 : Int32) u (fun r126 u126 =>
    (r126 = 0 →
      Post (0 : Int32) u126) ∧
    (¬ r126 = 0 →
      Post (1 : Int32) u126))
/-- RaisedPressModel.pressPart()Z -/
def mw_pressPart (u : MS) (Post : Int32 → MS → Prop) : Prop :=
  mw_inWords 0 u (fun r3 u3 =>
    (¬ r3 = 0 →
      (r3 < (1 : Int32) →
        mw_fails (2 : Int32) u3 (fun r28 u28 =>
          Post r28 u28)) ∧
      (¬ r3 < (1 : Int32) →
        (r3 ≤ (5 : Int32) →
          (¬ (((jm_i u3 0 19) >>> (r3 &&& 31)) &&& (1 : Int32)) = (1 : Int32) →
            ∀ u59 : MS, u59 = jm_s u3 0 19 ((jm_i u3 0 19) ||| ((1 : Int32) <<< (r3 &&& 31))) →
            mw_ahead u59 (fun u63 =>
              (¬ r3 = (4 : Int32) →
                (¬ r3 = (5 : Int32) →
                  mw_number ((13200 : Int32) + r3) (1 : Int32) (63 : Int32) u63 (fun r117 u117 =>
                    (r117 = 0 →
                      Post (0 : Int32) u117) ∧
                    (¬ r117 = 0 →
                      mw_pressPart_B123 Post u117))) ∧
                (r3 = (5 : Int32) →
                  mw_number (13205 : Int32) (2 : Int32) (30 : Int32) u63 (fun r99 u99 =>
                    (r99 = 0 →
                      Post (0 : Int32) u99) ∧
                    (¬ r99 = 0 →
                      mw_pressPart_B123 Post u99)))) ∧
              (r3 = (4 : Int32) →
                mw_number (13204 : Int32) (4 : Int32) (40 : Int32) u63 (fun r78 u78 =>
                  (r78 = 0 →
                    Post (0 : Int32) u78) ∧
                  (¬ r78 = 0 →
                    mw_pressPart_B123 Post u78))))) ∧
          ((((jm_i u3 0 19) >>> (r3 &&& 31)) &&& (1 : Int32)) = (1 : Int32) →
            mw_fails (5 : Int32) u3 (fun r46 u46 =>
              Post r46 u46))) ∧
        (¬ r3 ≤ (5 : Int32) →
          mw_fails (2 : Int32) u3 (fun r28 u28 =>
            Post r28 u28)))) ∧
    (r3 = 0 →
      mw_aRule u3 (fun r12 u12 =>
        Post r12 u12)))
set_option maxHeartbeats 4000000 in
set_option maxRecDepth 100000 in
theorem tmw_pressPart_B123 {X : JC} {D : va_G} {dA ad : Nat → Nat} {aK aV : Nat → Nat} {Post : Int32 → MS → Prop} {u : MS} (hX : JX X yX7_pressPart.cls cX7_pressPart 2 (Option.some Jvm.ClassFile.FieldType.boolean) 7 157 0 0) (hK : KM D dA (jj_s X)) (hD : MD ad) (hE : XE aK aV (AM ad) (jj_s X) (jj_s X).heap) (h : mw_pressPart_B123 Post  u) : JJ X (AM ad) (jj_Q X (va_Qi (fun r u => Post r u ∧ jj_z r) (jm_B D dA ad) (AM ad)) 0 0 (AM ad)) 2 (MW D dA ad u) 0 0 123 [(0, .ref (ad 0))] [] := by
  unfold mw_pressPart_B123 at h
  refine jj_aload_n hX dX7_pressPart_123 0 rfl 124 rfl ?_
  refine jj_bipush hX dX7_pressPart_124 cb_59 126 rfl ?_
  refine kmw_wantSign hX hK hD q1740 (Nat.le_of_ble_eq_true rfl) (Nat.le_of_ble_eq_true rfl) (Nat.zero_le _) (Nat.zero_le _) (Nat.le_of_ble_eq_true rfl) dX7_pressPart_126 129 rfl h (fun r126 u126 hb126 h => ?_)
  refine jj_if_eq hX dX7_pressPart_129 136 132 (by decide) rfl (fun c129 => ?_) (fun c129 => ?_)
  · have h := h.1 c129
    refine jj_iconst hX dX7_pressPart_136 ci_0 137 rfl ?_
    exact jj_retz (post := Post) (u := u126) hX dX7_pressPart_137 (Nat.le_refl 0) (Nat.le_refl 0) jm_hB jj_z0 h
  · have h := h.2 c129
    refine jj_iconst hX dX7_pressPart_132 ci_1 133 rfl ?_
    refine jj_goto hX dX7_pressPart_133 137 (by decide) ?_
    exact jj_retz (post := Post) (u := u126) hX dX7_pressPart_137 (Nat.le_refl 0) (Nat.le_refl 0) jm_hB jj_z1 h
set_option maxHeartbeats 4000000 in
set_option maxRecDepth 100000 in
theorem mmw_pressPart (l : Launch) (D : va_G) (dA ad aK aV : Nat → Nat) (hD : MD ad) (u : MS) (Post : Int32 → MS → Prop) (h : mw_pressPart  u Post) : Met l yX7_pressPart (ws_ yX7_pressPart cX7_pressPart 2 (Option.some Jvm.ClassFile.FieldType.boolean)) (jm_rm 7 157) (jn_Pc D dA ad aK aV u []) (va_Qi (fun r u => Post r u ∧ jj_z r) (jm_B D dA ad) (AM ad)) 0 0 (AM ad) := by
  refine jn_start [] [(0, .ref (ad 0))] (by decide) (Nat.le_of_ble_eq_true rfl) rfl (fun X hX hK hE => ?_)
  unfold mw_pressPart at h
  refine jj_aload_n hX dX7_pressPart_0 0 rfl 1 rfl ?_
  refine jk_ldc (i := 0) hX hE (by decide) rfl dX7_pressPart_1 3 rfl ?_
  refine kmw_inWords hX hK hD hE q1711 (Nat.le_of_ble_eq_true rfl) (Nat.le_of_ble_eq_true rfl) (Nat.zero_le _) (Nat.zero_le _) (Nat.le_of_ble_eq_true rfl) dX7_pressPart_3 6 rfl h (fun r3 u3 h => ?_)
  refine jj_istore_n (lv2 := [(0, .ref (ad 0)), (1, .int r3)]) hX dX7_pressPart_6 (Nat.le_of_ble_eq_true rfl) [1, 0] rfl 7 rfl ?_
  refine jj_iload_n hX dX7_pressPart_7 1 rfl 8 rfl ?_
  refine jj_if_ne hX dX7_pressPart_8 16 11 (by decide) rfl (fun c8 => ?_) (fun c8 => ?_)
  · have h := h.1 c8
    refine jj_iload_n hX dX7_pressPart_16 1 rfl 17 rfl ?_
    refine jj_iconst hX dX7_pressPart_17 ci_1 18 rfl ?_
    refine jj_icmp_lt hX dX7_pressPart_18 26 21 (by decide) rfl (fun c18 => ?_) (fun c18 => ?_)
    · have h := h.1 c18
      refine jj_aload_n hX dX7_pressPart_26 0 rfl 27 rfl ?_
      refine jj_iconst hX dX7_pressPart_27 ci_2 28 rfl ?_
      refine kmw_fails hX hK hD q1724 (Nat.le_of_ble_eq_true rfl) (Nat.le_of_ble_eq_true rfl) (Nat.zero_le _) (Nat.zero_le _) (Nat.le_of_ble_eq_true rfl) dX7_pressPart_28 31 rfl h (fun r28 u28 hb28 h => ?_)
      exact jj_retz (post := Post) (u := u28) hX dX7_pressPart_31 (Nat.le_refl 0) (Nat.le_refl 0) jm_hB hb28 h
    · have h := h.2 c18
      refine jj_iload_n hX dX7_pressPart_21 1 rfl 22 rfl ?_
      refine jj_iconst hX dX7_pressPart_22 ci_5 23 rfl ?_
      refine jj_icmp_le hX dX7_pressPart_23 32 26 (by decide) rfl (fun c23 => ?_) (fun c23 => ?_)
      · have h := h.1 c23
        refine jt_19 hX hK dX7_pressPart_32 0 rfl dX7_pressPart_33 q1503 36 rfl rfl ?_
        refine jj_iload_n hX dX7_pressPart_36 1 rfl 37 rfl ?_
        refine jj_ishr hX dX7_pressPart_37 38 rfl ?_
        refine jj_iconst hX dX7_pressPart_38 ci_1 39 rfl ?_
        refine jj_iand hX dX7_pressPart_39 40 rfl ?_
        refine jj_iconst hX dX7_pressPart_40 ci_1 41 rfl ?_
        refine jj_icmp_ne hX dX7_pressPart_41 50 44 (by decide) rfl (fun c41 => ?_) (fun c41 => ?_)
        · have h := h.1 c41
          refine jj_aload_n hX dX7_pressPart_50 0 rfl 51 rfl ?_
          refine jj_dup hX dX7_pressPart_51 rfl 52 rfl ?_
          refine jg_19 hX hK dX7_pressPart_52 q1503 55 rfl ?_
          refine jj_iconst hX dX7_pressPart_55 ci_1 56 rfl ?_
          refine jj_iload_n hX dX7_pressPart_56 1 rfl 57 rfl ?_
          refine jj_ishl hX dX7_pressPart_57 58 rfl ?_
          refine jj_ior hX dX7_pressPart_58 59 rfl ?_
          refine jp_19 hX hK hD dX7_pressPart_59 q1503 62 rfl (fun u59 e59 => ?_)
          have h := h u59 e59
          refine jj_aload_n hX dX7_pressPart_62 0 rfl 63 rfl ?_
          refine kmw_ahead hX hK hD q1686 (Nat.le_of_ble_eq_true rfl) (Nat.le_of_ble_eq_true rfl) (Nat.zero_le _) (Nat.zero_le _) (Nat.le_of_ble_eq_true rfl) dX7_pressPart_63 66 rfl h (fun u63 h => ?_)
          refine jj_iload_n hX dX7_pressPart_66 1 rfl 67 rfl ?_
          refine jj_iconst hX dX7_pressPart_67 ci_4 68 rfl ?_
          refine jj_icmp_ne hX dX7_pressPart_68 87 71 (by decide) rfl (fun c68 => ?_) (fun c68 => ?_)
          · have h := h.1 c68
            refine jj_iload_n hX dX7_pressPart_87 1 rfl 88 rfl ?_
            refine jj_iconst hX dX7_pressPart_88 ci_5 89 rfl ?_
            refine jj_icmp_ne hX dX7_pressPart_89 108 92 (by decide) rfl (fun c89 => ?_) (fun c89 => ?_)
            · have h := h.1 c89
              refine jj_aload_n hX dX7_pressPart_108 0 rfl 109 rfl ?_
              refine jj_sipush hX dX7_pressPart_109 cs_13200 112 rfl ?_
              refine jj_iload_n hX dX7_pressPart_112 1 rfl 113 rfl ?_
              refine jj_iadd hX dX7_pressPart_113 114 rfl ?_
              refine jj_iconst hX dX7_pressPart_114 ci_1 115 rfl ?_
              refine jj_bipush hX dX7_pressPart_115 cb_63 117 rfl ?_
              refine kmw_number hX hK hD q1744 (Nat.le_of_ble_eq_true rfl) (Nat.le_of_ble_eq_true rfl) (Nat.zero_le _) (Nat.zero_le _) (Nat.le_of_ble_eq_true rfl) dX7_pressPart_117 120 rfl h (fun r117 u117 hb117 h => ?_)
              refine jj_if_eq hX dX7_pressPart_120 136 123 (by decide) rfl (fun c120 => ?_) (fun c120 => ?_)
              · have h := h.1 c120
                refine jj_iconst hX dX7_pressPart_136 ci_0 137 rfl ?_
                exact jj_retz (post := Post) (u := u117) hX dX7_pressPart_137 (Nat.le_refl 0) (Nat.le_refl 0) jm_hB jj_z0 h
              · have h := h.2 c120
                refine jj_sub (lv2 := [(0, .ref (ad 0))]) [0] rfl ?_
                exact tmw_pressPart_B123 hX hK hD hE h
            · have h := h.2 c89
              refine jj_aload_n hX dX7_pressPart_92 0 rfl 93 rfl ?_
              refine jj_sipush hX dX7_pressPart_93 cs_13205 96 rfl ?_
              refine jj_iconst hX dX7_pressPart_96 ci_2 97 rfl ?_
              refine jj_bipush hX dX7_pressPart_97 cb_30 99 rfl ?_
              refine kmw_number hX hK hD q1744 (Nat.le_of_ble_eq_true rfl) (Nat.le_of_ble_eq_true rfl) (Nat.zero_le _) (Nat.zero_le _) (Nat.le_of_ble_eq_true rfl) dX7_pressPart_99 102 rfl h (fun r99 u99 hb99 h => ?_)
              refine jj_if_eq hX dX7_pressPart_102 136 105 (by decide) rfl (fun c102 => ?_) (fun c102 => ?_)
              · have h := h.1 c102
                refine jj_iconst hX dX7_pressPart_136 ci_0 137 rfl ?_
                exact jj_retz (post := Post) (u := u99) hX dX7_pressPart_137 (Nat.le_refl 0) (Nat.le_refl 0) jm_hB jj_z0 h
              · have h := h.2 c102
                refine jj_goto hX dX7_pressPart_105 123 (by decide) ?_
                refine jj_sub (lv2 := [(0, .ref (ad 0))]) [0] rfl ?_
                exact tmw_pressPart_B123 hX hK hD hE h
          · have h := h.2 c68
            refine jj_aload_n hX dX7_pressPart_71 0 rfl 72 rfl ?_
            refine jj_sipush hX dX7_pressPart_72 cs_13204 75 rfl ?_
            refine jj_iconst hX dX7_pressPart_75 ci_4 76 rfl ?_
            refine jj_bipush hX dX7_pressPart_76 cb_40 78 rfl ?_
            refine kmw_number hX hK hD q1744 (Nat.le_of_ble_eq_true rfl) (Nat.le_of_ble_eq_true rfl) (Nat.zero_le _) (Nat.zero_le _) (Nat.le_of_ble_eq_true rfl) dX7_pressPart_78 81 rfl h (fun r78 u78 hb78 h => ?_)
            refine jj_if_eq hX dX7_pressPart_81 136 84 (by decide) rfl (fun c81 => ?_) (fun c81 => ?_)
            · have h := h.1 c81
              refine jj_iconst hX dX7_pressPart_136 ci_0 137 rfl ?_
              exact jj_retz (post := Post) (u := u78) hX dX7_pressPart_137 (Nat.le_refl 0) (Nat.le_refl 0) jm_hB jj_z0 h
            · have h := h.2 c81
              refine jj_goto hX dX7_pressPart_84 123 (by decide) ?_
              refine jj_sub (lv2 := [(0, .ref (ad 0))]) [0] rfl ?_
              exact tmw_pressPart_B123 hX hK hD hE h
        · have h := h.2 c41
          refine jj_aload_n hX dX7_pressPart_44 0 rfl 45 rfl ?_
          refine jj_iconst hX dX7_pressPart_45 ci_5 46 rfl ?_
          refine kmw_fails hX hK hD q1724 (Nat.le_of_ble_eq_true rfl) (Nat.le_of_ble_eq_true rfl) (Nat.zero_le _) (Nat.zero_le _) (Nat.le_of_ble_eq_true rfl) dX7_pressPart_46 49 rfl h (fun r46 u46 hb46 h => ?_)
          exact jj_retz (post := Post) (u := u46) hX dX7_pressPart_49 (Nat.le_refl 0) (Nat.le_refl 0) jm_hB hb46 h
      · have h := h.2 c23
        refine jj_aload_n hX dX7_pressPart_26 0 rfl 27 rfl ?_
        refine jj_iconst hX dX7_pressPart_27 ci_2 28 rfl ?_
        refine kmw_fails hX hK hD q1724 (Nat.le_of_ble_eq_true rfl) (Nat.le_of_ble_eq_true rfl) (Nat.zero_le _) (Nat.zero_le _) (Nat.le_of_ble_eq_true rfl) dX7_pressPart_28 31 rfl h (fun r28 u28 hb28 h => ?_)
        exact jj_retz (post := Post) (u := u28) hX dX7_pressPart_31 (Nat.le_refl 0) (Nat.le_refl 0) jm_hB hb28 h
  · have h := h.2 c8
    refine jj_aload_n hX dX7_pressPart_11 0 rfl 12 rfl ?_
    refine kmw_aRule hX hK hD hE q1717 (Nat.le_of_ble_eq_true rfl) (Nat.le_of_ble_eq_true rfl) (Nat.zero_le _) (Nat.zero_le _) (Nat.le_of_ble_eq_true rfl) dX7_pressPart_12 15 rfl h (fun r12 u12 hb12 h => ?_)
    exact jj_retz (post := Post) (u := u12) hX dX7_pressPart_15 (Nat.le_refl 0) (Nat.le_refl 0) jm_hB hb12 h
theorem hd_mw_pressPart : yX7_pressPart.cls = RX7 ∧ yX7_pressPart.cls ≠ "java/lang/invoke/MethodHandle" ∧ yX7_pressPart.cls ≠ "java/lang/invoke/VarHandle" ∧ (parseMethodDescriptor yX7_pressPart.desc).map (fun d => d.parameters.length) = some 0 := by decide +kernel
theorem kmw_pressPart {X : JC} {Q : State → Prop} {nL k n pc : Nat} {lv : List (Nat × Value)} {st : List Value} {own : String} {cc : ByteArray} {ret : Option FieldType} {F LL mc ms ix : Nat} {D : va_G} {dA ad aK aV : Nat → Nat} {u : MS} {Post : Int32 → MS → Prop} (hX : JX X own cc nL ret F LL mc ms) (hK : KM D dA (jj_s X)) (hD : MD ad) (hE : XE aK aV (AM ad) (jj_s X) (jj_s X).heap) (hlk : (Cond.methodLink own ix yX7_pressPart) ∈ lw_all) (hF : 7 + 1 ≤ F) (hL : 8 + (2 + 11) + 157 ≤ LL) (hk : k ≤ mc) (hk2 : n ≤ ms) (hw : (st.map fun v => v.category).sum ≤ 8) (d : decode cc pc = .ok (.invokevirtual ix, 3)) (q : Nat) (hq : pc + 3 = q) (h : mw_pressPart  u Post) (kk : ∀ (r : Int32) (u2 : MS), jj_z r → Post r u2 → JJ X (AM ad) Q nL (MW D dA ad u2) k n q lv (.int r :: st)) : JJ X (AM ad) Q nL (MW D dA ad u) k n pc lv (.ref (ad 0) :: st) :=
  jn_callz (na := 0) (As := []) hX hK hE (mmw_pressPart (jj_l X) D dA ad aK aV hD  u Post h) hlk q1708 qs66 q129 q1709 hd_mw_pressPart rfl rfl hw hF hL hk hk2 d q hq kk
def mw_press_L59_S (Post : Int32 → MS → Prop) (R : Int32 → MS → Prop) (x3 : Int32) (u : MS) : Prop :=
  ((3300 : Int32) ≤ x3 →
    mw_taken (jm_i u 1 0) u (fun r95 u95 =>
      Post r95 u95)) ∧
  (¬ (3300 : Int32) ≤ x3 →
    vp_in ((13200 : Int32) + x3) 19800 ∧
    vp_in x3 19800 ∧
    ∀ u81 : MS, u81 = jm_s u 1 x3.toNatClampNeg (jm_i u 1 ((13200 : Int32) + x3).toNatClampNeg) →
    ∀ v82 : Int32, v82 = x3 + (1 : Int32) →
    R v82 u81)
def mw_press_L59 (Post : Int32 → MS → Prop) : Nat → Int32 → MS → Prop
  | 0 => fun _ _ => False
  | n + 1 => fun x3 u => mw_press_L59_S Post (mw_press_L59 Post n) x3 u
def mw_press_B50 (Post : Int32 → MS → Prop) (u : MS) : Prop :=
  (¬ (jm_i u 0 17) = 0 →
    mw_taken (jm_i u 1 0) u (fun r95 u95 =>
      Post r95 u95)) ∧
  ((jm_i u 0 17) = 0 →
    ∃ n, mw_press_L59 Post n (0 : Int32) u)
def mw_press_L31_S (Post : Int32 → MS → Prop) (R : Int32 → MS → Prop) (x2 : Int32) (u : MS) : Prop :=
  (x2 = 0 →
    mw_press_B50 Post u) ∧
  (¬ x2 = 0 →
    ((jm_i u 0 11) = 0 →
      mw_press_B50 Post u) ∧
    (¬ (jm_i u 0 11) = 0 →
      mw_pressPart u (fun r43 u43 =>
        R r43 u43)))
def mw_press_L31 (Post : Int32 → MS → Prop) : Nat → Int32 → MS → Prop
  | 0 => fun _ _ => False
  | n + 1 => fun x2 u => mw_press_L31_S Post (mw_press_L31 Post n) x2 u
/-- RaisedPressModel.press(I)I -/
def mw_press (x1 : Int32) (u : MS) (Post : Int32 → MS → Prop) : Prop :=
  mw_begins x1 (900 : Int32) u (fun r5 u5 =>
    (¬ r5 = 0 →
      mw_empties (13200 : Int32) u5 (fun u21 =>
        ∀ u26 : MS, u26 = jm_s u21 0 19 (0 : Int32) →
        ∃ n, mw_press_L31 Post n (1 : Int32) u26)) ∧
    (r5 = 0 →
      mw_refuse (1 : Int32) u5 (fun r13 u13 =>
        Post r13 u13)))
set_option maxHeartbeats 4000000 in
set_option maxRecDepth 100000 in
theorem tmw_press_L59 {X : JC} {D : va_G} {dA ad : Nat → Nat} {aK aV : Nat → Nat} {Post : Int32 → MS → Prop} (hX : JX X yX7_press.cls cX7_press 4 (Option.some Jvm.ClassFile.FieldType.int) 8 178 0 0) (hK : KM D dA (jj_s X)) (hD : MD ad) (hE : XE aK aV (AM ad) (jj_s X) (jj_s X).heap) : ∀ (n : Nat) (x3 : Int32) (u : MS), mw_press_L59 Post n x3 u → JJ X (AM ad) (jj_Q X (va_Qi Post (jm_B D dA ad) (AM ad)) 0 0 (AM ad)) 4 (MW D dA ad u) 0 0 59 [(0, .ref (ad 0)), (3, .int x3)] [] := by
  intro n
  induction n with
  | zero =>
    intro x3 u h
    exact h.elim
  | succ n ih =>
    intro x3 u h
    have h : mw_press_L59_S Post (mw_press_L59 Post n) x3 u := h
    unfold mw_press_L59_S at h
    refine jj_iload_n hX dX7_press_59 1 rfl 60 rfl ?_
    refine jj_sipush hX dX7_press_60 cs_3300 63 rfl ?_
    refine jj_icmp_ge hX dX7_press_63 88 66 (by decide) rfl (fun c63 => ?_) (fun c63 => ?_)
    · have h := h.1 c63
      refine jj_aload_n hX dX7_press_88 0 rfl 89 rfl ?_
      refine jt_0 hX hK dX7_press_89 0 rfl dX7_press_90 q1484 93 rfl rfl ?_
      refine jj_iconst hX dX7_press_93 ci_0 94 rfl ?_
      refine jr_1 hX hK 0 kc_0 vi_1_0 dX7_press_94 95 rfl ?_
      refine kmw_taken hX hK hD q1748 (Nat.le_of_ble_eq_true rfl) (Nat.le_of_ble_eq_true rfl) (Nat.zero_le _) (Nat.zero_le _) (Nat.le_of_ble_eq_true rfl) dX7_press_95 98 rfl h (fun r95 u95 h => ?_)
      exact jj_reti (post := Post) (u := u95) hX dX7_press_98 (Nat.le_refl 0) (Nat.le_refl 0) jm_hB h
    · have h := h.2 c63
      refine jt_0 hX hK dX7_press_66 0 rfl dX7_press_67 q1484 70 rfl rfl ?_
      refine jj_iload_n hX dX7_press_70 1 rfl 71 rfl ?_
      refine jt_0 hX hK dX7_press_71 0 rfl dX7_press_72 q1484 75 rfl rfl ?_
      refine jj_sipush hX dX7_press_75 cs_13200 78 rfl ?_
      refine jj_iload_n hX dX7_press_78 1 rfl 79 rfl ?_
      refine jj_iadd hX dX7_press_79 80 rfl ?_
      obtain ⟨hi80, h⟩ := h
      refine jr_1 hX hK _ rfl hi80 dX7_press_80 81 rfl ?_
      obtain ⟨hi81, h⟩ := h
      refine jw_1 hX hK hD _ rfl hi81 dX7_press_81 82 rfl (fun u81 e81 => ?_)
      have h := h u81 e81
      obtain ⟨v82, e82⟩ : ∃ y : Int32, y = x3 + (1 : Int32) := ⟨_, rfl⟩
      have h := h v82 e82
      refine jj_iinc (v := v82) (lv2 := [(0, .ref (ad 0)), (3, .int v82)]) hX dX7_press_82 1 rfl (by rw [e82, ci_1]) (Nat.le_of_ble_eq_true rfl) [1, 0] rfl 85 rfl ?_
      refine jj_goto hX dX7_press_85 59 (by decide) ?_
      exact ih _ _ h
set_option maxHeartbeats 4000000 in
set_option maxRecDepth 100000 in
theorem tmw_press_B50 {X : JC} {D : va_G} {dA ad : Nat → Nat} {aK aV : Nat → Nat} {Post : Int32 → MS → Prop} {u : MS} (hX : JX X yX7_press.cls cX7_press 4 (Option.some Jvm.ClassFile.FieldType.int) 8 178 0 0) (hK : KM D dA (jj_s X)) (hD : MD ad) (hE : XE aK aV (AM ad) (jj_s X) (jj_s X).heap) (h : mw_press_B50 Post  u) : JJ X (AM ad) (jj_Q X (va_Qi Post (jm_B D dA ad) (AM ad)) 0 0 (AM ad)) 4 (MW D dA ad u) 0 0 50 [(0, .ref (ad 0))] [] := by
  unfold mw_press_B50 at h
  refine jt_17 hX hK dX7_press_50 0 rfl dX7_press_51 q1501 54 rfl rfl ?_
  refine jj_if_ne hX dX7_press_54 88 57 (by decide) rfl (fun c54 => ?_) (fun c54 => ?_)
  · have h := h.1 c54
    refine jj_aload_n hX dX7_press_88 0 rfl 89 rfl ?_
    refine jt_0 hX hK dX7_press_89 0 rfl dX7_press_90 q1484 93 rfl rfl ?_
    refine jj_iconst hX dX7_press_93 ci_0 94 rfl ?_
    refine jr_1 hX hK 0 kc_0 vi_1_0 dX7_press_94 95 rfl ?_
    refine kmw_taken hX hK hD q1748 (Nat.le_of_ble_eq_true rfl) (Nat.le_of_ble_eq_true rfl) (Nat.zero_le _) (Nat.zero_le _) (Nat.le_of_ble_eq_true rfl) dX7_press_95 98 rfl h (fun r95 u95 h => ?_)
    exact jj_reti (post := Post) (u := u95) hX dX7_press_98 (Nat.le_refl 0) (Nat.le_refl 0) jm_hB h
  · have h := h.2 c54
    refine jj_iconst hX dX7_press_57 ci_0 58 rfl ?_
    refine jj_istore_n (lv2 := [(0, .ref (ad 0)), (3, .int (0 : Int32))]) hX dX7_press_58 (Nat.le_of_ble_eq_true rfl) [1, 0] rfl 59 rfl ?_
    obtain ⟨n9, h⟩ := h
    exact tmw_press_L59 hX hK hD hE n9 _ _ h
set_option maxHeartbeats 4000000 in
set_option maxRecDepth 100000 in
theorem tmw_press_L31 {X : JC} {D : va_G} {dA ad : Nat → Nat} {aK aV : Nat → Nat} {Post : Int32 → MS → Prop} (hX : JX X yX7_press.cls cX7_press 4 (Option.some Jvm.ClassFile.FieldType.int) 8 178 0 0) (hK : KM D dA (jj_s X)) (hD : MD ad) (hE : XE aK aV (AM ad) (jj_s X) (jj_s X).heap) : ∀ (n : Nat) (x2 : Int32) (u : MS), mw_press_L31 Post n x2 u → JJ X (AM ad) (jj_Q X (va_Qi Post (jm_B D dA ad) (AM ad)) 0 0 (AM ad)) 4 (MW D dA ad u) 0 0 31 [(0, .ref (ad 0)), (2, .int x2)] [] := by
  intro n
  induction n with
  | zero =>
    intro x2 u h
    exact h.elim
  | succ n ih =>
    intro x2 u h
    have h : mw_press_L31_S Post (mw_press_L31 Post n) x2 u := h
    unfold mw_press_L31_S at h
    refine jj_iload_n hX dX7_press_31 1 rfl 32 rfl ?_
    refine jj_if_eq hX dX7_press_32 50 35 (by decide) rfl (fun c32 => ?_) (fun c32 => ?_)
    · have h := h.1 c32
      refine jj_sub (lv2 := [(0, .ref (ad 0))]) [0] rfl ?_
      exact tmw_press_B50 hX hK hD hE h
    · have h := h.2 c32
      refine jt_11 hX hK dX7_press_35 0 rfl dX7_press_36 q1495 39 rfl rfl ?_
      refine jj_if_eq hX dX7_press_39 50 42 (by decide) rfl (fun c39 => ?_) (fun c39 => ?_)
      · have h := h.1 c39
        refine jj_sub (lv2 := [(0, .ref (ad 0))]) [0] rfl ?_
        exact tmw_press_B50 hX hK hD hE h
      · have h := h.2 c39
        refine jj_aload_n hX dX7_press_42 0 rfl 43 rfl ?_
        refine kmw_pressPart hX hK hD hE q1706 (Nat.le_of_ble_eq_true rfl) (Nat.le_of_ble_eq_true rfl) (Nat.zero_le _) (Nat.zero_le _) (Nat.le_of_ble_eq_true rfl) dX7_press_43 46 rfl h (fun r43 u43 hb43 h => ?_)
        refine jj_istore_n (lv2 := [(0, .ref (ad 0)), (2, .int r43)]) hX dX7_press_46 (Nat.le_of_ble_eq_true rfl) [1, 0] rfl 47 rfl ?_
        refine jj_goto hX dX7_press_47 31 (by decide) ?_
        exact ih _ _ h
set_option maxHeartbeats 4000000 in
set_option maxRecDepth 100000 in
theorem mmw_press (l : Launch) (D : va_G) (dA ad aK aV : Nat → Nat) (hD : MD ad) (x1 : Int32) (u : MS) (Post : Int32 → MS → Prop) (h : mw_press x1 u Post) : Met l yX7_press (ws_ yX7_press cX7_press 4 (Option.some Jvm.ClassFile.FieldType.int)) (jm_rm 8 178) (jn_Pc D dA ad aK aV u [.int x1]) (va_Qi Post (jm_B D dA ad) (AM ad)) 0 0 (AM ad) := by
  refine jn_start [.int x1] [(0, .ref (ad 0)), (1, .int x1)] (by decide) (Nat.le_of_ble_eq_true rfl) rfl (fun X hX hK hE => ?_)
  unfold mw_press at h
  refine jj_aload_n hX dX7_press_0 0 rfl 1 rfl ?_
  refine jj_iload_n hX dX7_press_1 1 rfl 2 rfl ?_
  refine jj_sipush hX dX7_press_2 cs_900 5 rfl ?_
  refine kmw_begins hX hK hD q1682 (Nat.le_of_ble_eq_true rfl) (Nat.le_of_ble_eq_true rfl) (Nat.zero_le _) (Nat.zero_le _) (Nat.le_of_ble_eq_true rfl) dX7_press_5 8 rfl h (fun r5 u5 hb5 h => ?_)
  refine jj_if_ne hX dX7_press_8 17 11 (by decide) rfl (fun c8 => ?_) (fun c8 => ?_)
  · have h := h.1 c8
    refine jj_aload_n hX dX7_press_17 0 rfl 18 rfl ?_
    refine jj_sipush hX dX7_press_18 cs_13200 21 rfl ?_
    refine kmw_empties hX hK hD q1480 (Nat.le_of_ble_eq_true rfl) (Nat.le_of_ble_eq_true rfl) (Nat.zero_le _) (Nat.zero_le _) (Nat.le_of_ble_eq_true rfl) dX7_press_21 24 rfl h (fun u21 h => ?_)
    refine jj_aload_n hX dX7_press_24 0 rfl 25 rfl ?_
    refine jj_iconst hX dX7_press_25 ci_0 26 rfl ?_
    refine jp_19 hX hK hD dX7_press_26 q1503 29 rfl (fun u26 e26 => ?_)
    have h := h u26 e26
    refine jj_iconst hX dX7_press_29 ci_1 30 rfl ?_
    refine jj_istore_n (lv2 := [(0, .ref (ad 0)), (2, .int (1 : Int32))]) hX dX7_press_30 (Nat.le_of_ble_eq_true rfl) [1, 0] rfl 31 rfl ?_
    obtain ⟨n9, h⟩ := h
    exact tmw_press_L31 hX hK hD hE n9 _ _ h
  · have h := h.2 c8
    refine jj_aload_n hX dX7_press_11 0 rfl 12 rfl ?_
    refine jj_iconst hX dX7_press_12 ci_1 13 rfl ?_
    refine kmw_refuse hX hK hD q1702 (Nat.le_of_ble_eq_true rfl) (Nat.le_of_ble_eq_true rfl) (Nat.zero_le _) (Nat.zero_le _) (Nat.le_of_ble_eq_true rfl) dX7_press_13 16 rfl h (fun r13 u13 h => ?_)
    exact jj_reti (post := Post) (u := u13) hX dX7_press_16 (Nat.le_refl 0) (Nat.le_refl 0) jm_hB h
theorem hd_mw_press : yX7_press.cls = RX7 ∧ yX7_press.cls ≠ "java/lang/invoke/MethodHandle" ∧ yX7_press.cls ≠ "java/lang/invoke/VarHandle" ∧ (parseMethodDescriptor yX7_press.desc).map (fun d => d.parameters.length) = some 1 := by decide +kernel
theorem kmw_press {X : JC} {Q : State → Prop} {nL k n pc : Nat} {lv : List (Nat × Value)} {st : List Value} {own : String} {cc : ByteArray} {ret : Option FieldType} {F LL mc ms ix : Nat} {D : va_G} {dA ad aK aV : Nat → Nat} {x1 : Int32} {u : MS} {Post : Int32 → MS → Prop} (hX : JX X own cc nL ret F LL mc ms) (hK : KM D dA (jj_s X)) (hD : MD ad) (hE : XE aK aV (AM ad) (jj_s X) (jj_s X).heap) (hlk : (Cond.methodLink own ix yX7_press) ∈ lw_all) (hF : 8 + 1 ≤ F) (hL : 8 + (4 + 11) + 178 ≤ LL) (hk : k ≤ mc) (hk2 : n ≤ ms) (hw : (st.map fun v => v.category).sum ≤ 8) (d : decode cc pc = .ok (.invokevirtual ix, 3)) (q : Nat) (hq : pc + 3 = q) (h : mw_press x1 u Post) (kk : ∀ (r : Int32) (u2 : MS), Post r u2 → JJ X (AM ad) Q nL (MW D dA ad u2) k n q lv (.int r :: st)) : JJ X (AM ad) Q nL (MW D dA ad u) k n pc lv (.int x1 :: .ref (ad 0) :: st) :=
  jn_calli (na := 1) (As := [.int x1]) hX hK hE (mmw_press (jj_l X) D dA ad aK aV hD x1 u Post h) hlk q1679 q1680 q129 q1681 hd_mw_press rfl rfl hw hF hL hk hk2 d q hq kk
